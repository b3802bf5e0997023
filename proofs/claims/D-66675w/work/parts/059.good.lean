/-! ===== OriginRules$Good: what it answers ===== -/
theorem od_a1 (v : Int32) : v &&& 1 = 0 ∨ v &&& 1 = 1 := by
  cases h : bt v 0 with
  | true => exact Or.inr ((od_and1 v).mpr h)
  | false =>
    left
    apply b_ext
    intro i hi
    rw [b_and, od_b1 i hi, b_0]
    by_cases z : i = 0
    · subst z; simp [h]
    · simp [z]
theorem od_fa {v : Int32} (h : ¬ v &&& 1 = 0) : v &&& 1 = 1 := (od_a1 v).resolve_left h
theorem od_fb {v : Int32} (h : v &&& 1 = 0) : ¬ v &&& 1 = 1 := by rw [h]; decide
theorem od_ownA {X : Nat → Int32} {j : Nat} {z f : Int32} (hz : z = if j = 0 then 0 else oc_mo X (j - 1)) (hf : f = 0 → j = 0) (hj : j ≤ 10) (h : oc_mo X j = z) : oc_mo X j = oc_mo X (oc_mr f) := by
  by_cases j0 : j = 0
  · subst j0
    rw [if_pos rfl] at hz
    subst hz
    exact absurd h (by show ¬ (1 : Int32) = 0; decide)
  · rw [if_neg j0] at hz
    have f0 : ¬ f = 0 := fun e => j0 (hf e)
    unfold oc_mr
    rw [if_neg f0]
    have e : oc_mo X (j - 1 + 1) = oc_mo X (j - 1) := by rw [show j - 1 + 1 = j by omega, h, hz]
    rw [od_fixed e (by omega), h, hz]
theorem od_ownB {X : Nat → Int32} {j : Nat} {z : Int32} (hz : z = if j = 0 then 0 else oc_mo X (j - 1)) (h : ¬ oc_mo X j = z) : j ≤ 9 := by
  by_cases j0 : j = 0
  · omega
  · rw [if_neg j0] at hz
    have e : ¬ oc_mo X (j - 1 + 1) = oc_mo X (j - 1) := by rw [show j - 1 + 1 = j by omega, ← hz]; exact h
    have := od_grow e
    omega
theorem od_ownC {X : Nat → Int32} {j : Nat} {f : Int32} (hf : f = 0 → j = 0) (h : f = 0) : oc_mo X (j + 1) = oc_mo X (oc_mr f) := by
  unfold oc_mr
  rw [if_pos h, hf h]
set_option maxHeartbeats 4000000 in
set_option maxRecDepth 100000 in
theorem kX3_touches {l : Launch} {s0 : State} {b0 : Addr} {D : va_G} {d : Nat → ClassId} (G : oc_G l s0 b0 D d) {H : Heap} {u : Nat → Nat} {I : Nat → Int32} {F : Nat → Nat → Int32} {cd : Int32} {pr : Int64} {sz : Int32} (hP : va_P D oc_cl ([(u 3, .inr (2, [.ref (u 6), .int (I 11), .int (I 12), .int (I 14), .int (I 15), .int (I 16), .int (I 17), .ref (u 4), .int cd, .long pr, .ref (u 5), .int sz])), (u 4, .inl (d 1, 100, .inl (F 13)))] : va_W) H) (w : Int32) (r : Nat) (hr9 : r < 10) : oc_C l s0 yX3_touches (oc_rm 0 0 0 0) [.ref (u 3), .int (nI r), .int w] H oc_N (oc_R (some (.int (oc_b (od_tb (F 13) r w 10)))) H) := by
  refine oc_start G (cc := cX3_touches) (L := 5) (ret := (Option.some Jvm.ClassFile.FieldType.boolean)) q539 (Nat.le_of_ble_eq_true rfl) ?_
  intro p e s m below meth c ls hx hok hb hml hr hlocks htab hown hts hK hmn hh hl
  subst hh
  have hl : lv_has ls 5 [(0, .ref (u 3)), (1, .int (nI r)), (2, .int w)] := hl
  have hZ := oc_Z0 hok
  refine lv_iconst (v := 0) hx hb dX3_touches_0 (by decide) ?_
  refine lv_istore_n (lv' := [(3, .int 0), (0, .ref (u 3)), (1, .int (nI r)), (2, .int w)]) hx hb dX3_touches_1 rfl hl (by decide) rfl (fun ls hl => ?_)
  refine lv_iconst (v := 0) hx hb dX3_touches_2 (by decide) ?_
  refine lv_istore (lv' := [(4, .int 0), (3, .int 0), (0, .ref (u 3)), (1, .int (nI r)), (2, .int w)]) hx hb dX3_touches_3 hl (by decide) rfl (fun ls hl => ?_)
  have lp5 : ∀ (n : Nat) (k : Nat), (k ≤ 10) → (11 ≤ k + n) → ∀ (ls : Array Slot), lv_has ls 5 [(4, .int (nI k)), (3, .int (oc_b (od_tb (F 13) r w k))), (0, .ref (u 3)), (1, .int (nI r)), (2, .int w)] → W p l e (oc_rm 0 0 0 0) s m ([.ref (u 3), .int (nI r), .int w] : List Value).toArray below meth c s.heap [] 0 0 (oc_Q oc_N below s (oc_R (some (.int (oc_b (od_tb (F 13) r w 10)))) s.heap)) (F0 m 5 ls []) := by
    intro n
    induction n with
    | zero => intro k hk hn ls hl; exact absurd hn (by omega)
    | succ n ih5 =>
      intro k hk hn ls hl
      refine lv_iload hx hb dX3_touches_5 (lv_at hl 0 rfl) ?_
      refine lv_bipush (v := 10) hx hb dX3_touches_7 (by decide) ?_
      refine lv_icmp_ge (x := nI k) (y := 10) (tgt := 51) hx hb dX3_touches_9 (by decide) (fun c9 => ?_) (fun c9 => ?_)
      · -- taken
        rw [oc_le (x := 10) (y := nI k) (a := 10) (b := k) rfl rfl (by omega) (by omega)] at c9
        refine lv_iload_n hx hb dX3_touches_51 rfl (lv_at hl 1 rfl) ?_
        exact oc_zret hx hb hr hlocks va_S.rf dX3_touches_52 (oc_bn _) (oc_Ri (by rw [show k = 10 by omega]))
      · -- not taken
        rw [oc_le (x := 10) (y := nI k) (a := 10) (b := k) rfl rfl (by omega) (by omega)] at c9
        refine lv_iload_n hx hb dX3_touches_12 rfl (lv_at hl 1 rfl) ?_
        refine oc_cut (g2 := F0 m 43 ls [.int (oc_b (od_t1 (F 13) r w k)), .int (oc_b (od_tb (F 13) r w k))]) ?_ (fun K43 => ?_)
        · -- behind 43
          refine lv_ior hx hb dX3_touches_43 ?_
          refine oc_topi (x := (oc_b (od_tb (F 13) r w k)) ||| (oc_b (od_t1 (F 13) r w k))) (y := oc_b (od_tb (F 13) r w (k + 1))) (od_or _ _) ?_
          refine lv_istore_n (lv' := [(3, .int (oc_b (od_tb (F 13) r w (k + 1)))), (4, .int (nI k)), (0, .ref (u 3)), (1, .int (nI r)), (2, .int w)]) hx hb dX3_touches_44 rfl hl (by decide) rfl (fun ls hl => ?_)
          refine lv_iinc (v := nI (k + 1)) (lv' := [(4, .int (nI (k + 1))), (3, .int (oc_b (od_tb (F 13) r w (k + 1)))), (0, .ref (u 3)), (1, .int (nI r)), (2, .int w)]) hx hb dX3_touches_45 hl (k := 1) rfl (nI_1 k) (by decide) rfl (fun ls hl => ?_)
          refine lv_goto (tgt := 5) hx hb dX3_touches_48 (by decide) ?_
          exact ih5 (k + 1) (by omega) (by omega) ls (lv_sub hl [0, 1, 2, 3, 4] rfl)
        · -- up to 43
          refine lv_iload_n hx hb dX3_touches_13 rfl (lv_at hl 4 rfl) ?_
          refine lv_iload hx hb dX3_touches_14 (lv_at hl 0 rfl) ?_
          refine lv_ishr hx hb dX3_touches_16 ?_
          refine lv_iconst (v := 1) hx hb dX3_touches_17 (by decide) ?_
          refine lv_iand hx hb dX3_touches_18 ?_
          refine lv_iconst (v := 1) hx hb dX3_touches_19 (by decide) ?_
          refine lv_icmp_ne (x := (w >>> ((nI k) &&& 31)) &&& 1) (y := 1) (tgt := 42) hx hb dX3_touches_20 (by decide) (fun c20 => ?_) (fun c20 => ?_)
          · -- taken
            refine lv_iconst (v := 0) hx hb dX3_touches_42 (by decide) ?_
            exact oc_topi (x := 0) (by simp [od_t1, oc_b, *]) K43
          · -- not taken
            refine lv_aload_n hx hb dX3_touches_23 rfl (lv_at hl 2 rfl) ?_
            refine va_get (D := D) (ci := 2) (v := .ref (u 4)) (C := RX3) (T := TX3) (N := 12) hx hb hts in_X3 hown hK hP 0 rfl rfl 7 (by decide) (hts _ q136) (fun _ h9 => h9) rfl dX3_touches_24 ?_
            refine lv_bipush (v := 10) hx hb dX3_touches_27 (by decide) ?_
            refine lv_iload_n hx hb dX3_touches_29 rfl (lv_at hl 3 rfl) ?_
            refine lv_imul hx hb dX3_touches_30 ?_
            refine lv_iload hx hb dX3_touches_31 (lv_at hl 0 rfl) ?_
            refine lv_iadd hx hb dX3_touches_33 ?_
            refine oc_zald hx hb hK hP 1 1 rfl rfl (10 * r + k) (oc_ij rfl rfl) (by omega) (by decide) dX3_touches_34 ?_
            refine lv_if_eq (x := (F 13) (10 * r + k)) (tgt := 42) hx hb dX3_touches_35 (by decide) (fun c35 => ?_) (fun c35 => ?_)
            · -- taken
              refine lv_iconst (v := 0) hx hb dX3_touches_42 (by decide) ?_
              exact oc_topi (x := 0) (by simp [od_t1, oc_b, *]) K43
            · -- not taken
              refine lv_iconst (v := 1) hx hb dX3_touches_38 (by decide) ?_
              refine lv_goto (tgt := 43) hx hb dX3_touches_39 (by decide) ?_
              exact oc_topi (x := 1) (by simp [od_t1, oc_b, *]) K43
  exact lp5 11 0 (by omega) (by omega) ls (lv_sub hl [0, 1, 2, 3, 4] rfl)
set_option maxHeartbeats 4000000 in
set_option maxRecDepth 100000 in
theorem kX3_own {l : Launch} {s0 : State} {b0 : Addr} {D : va_G} {d : Nat → ClassId} (G : oc_G l s0 b0 D d) {H : Heap} {u : Nat → Nat} {I : Nat → Int32} {F : Nat → Nat → Int32} {cd : Int32} {pr : Int64} {sz : Int32} (hP : va_P D oc_cl ([(u 3, .inr (2, [.ref (u 6), .int (I 11), .int (I 12), .int (I 14), .int (I 15), .int (I 16), .int (I 17), .ref (u 4), .int cd, .long pr, .ref (u 5), .int sz])), (u 4, .inl (d 1, 100, .inl (F 13)))] : va_W) H) (hsym : od_sym (F 13)) : oc_C l s0 yX3_own (oc_rm 1 17 0 0) [.ref (u 3)] H oc_N (oc_R (some (.int (oc_mo (F 13) (oc_mr (I 15))))) H) := by
  refine oc_start G (cc := cX3_own) (L := 5) (ret := (Option.some Jvm.ClassFile.FieldType.int)) q535 (Nat.le_of_ble_eq_true rfl) ?_
  intro p e s m below meth c ls hx hok hb hml hr hlocks htab hown hts hK hmn hh hl
  subst hh
  have hl : lv_has ls 5 [(0, .ref (u 3))] := hl
  have hZ := oc_Z0 hok
  refine lv_iconst (v := 1) hx hb dX3_own_0 (by decide) ?_
  refine lv_istore_n (lv' := [(1, .int 1), (0, .ref (u 3))]) hx hb dX3_own_1 rfl hl (by decide) rfl (fun ls hl => ?_)
  refine lv_iconst (v := 0) hx hb dX3_own_2 (by decide) ?_
  refine lv_istore_n (lv' := [(2, .int 0), (1, .int 1), (0, .ref (u 3))]) hx hb dX3_own_3 rfl hl (by decide) rfl (fun ls hl => ?_)
  have lp4 : ∀ (n : Nat) (j : Nat) (z : Int32), (j ≤ 10) → (11 ≤ j + n) → (z = if j = 0 then 0 else oc_mo (F 13) (j - 1)) → (I 15 = 0 → j = 0) → ∀ (ls : Array Slot), lv_has ls 5 [(2, .int z), (1, .int (oc_mo (F 13) j)), (0, .ref (u 3))] → W p l e (oc_rm 1 17 0 0) s m ([.ref (u 3)] : List Value).toArray below meth c s.heap [] 0 0 (oc_Q oc_N below s (oc_R (some (.int (oc_mo (F 13) (oc_mr (I 15))))) s.heap)) (F0 m 4 ls []) := by
    intro n
    induction n with
    | zero => intro j z hj hn hz hf0 ls hl; exact absurd hn (by omega)
    | succ n ih4 =>
      intro j z hj hn hz hf0 ls hl
      refine lv_iload_n hx hb dX3_own_4 rfl (lv_at hl 1 rfl) ?_
      refine lv_iload_n hx hb dX3_own_5 rfl (lv_at hl 0 rfl) ?_
      refine lv_icmp_eq (x := oc_mo (F 13) j) (y := z) (tgt := 64) hx hb dX3_own_6 (by decide) (fun c6 => ?_) (fun c6 => ?_)
      · -- taken
        refine lv_iload_n hx hb dX3_own_64 rfl (lv_at hl 1 rfl) ?_
        exact oc_iret hx hb hr hlocks va_S.rf dX3_own_65 (oc_Ri (od_ownA hz hf0 hj c6))
      · -- not taken
        have hj9 := od_ownB hz c6
        refine lv_iload_n hx hb dX3_own_9 rfl (lv_at hl 1 rfl) ?_
        refine lv_istore_n (lv' := [(2, .int (oc_mo (F 13) j)), (1, .int (oc_mo (F 13) j)), (0, .ref (u 3))]) hx hb dX3_own_10 rfl hl (by decide) rfl (fun ls hl => ?_)
        refine lv_iload_n hx hb dX3_own_11 rfl (lv_at hl 1 rfl) ?_
        refine lv_istore_n (lv' := [(3, .int (oc_mo (F 13) j)), (2, .int (oc_mo (F 13) j)), (1, .int (oc_mo (F 13) j)), (0, .ref (u 3))]) hx hb dX3_own_12 rfl hl (by decide) rfl (fun ls hl => ?_)
        refine lv_iconst (v := 0) hx hb dX3_own_13 (by decide) ?_
        refine lv_istore (lv' := [(4, .int 0), (3, .int (oc_mo (F 13) j)), (2, .int (oc_mo (F 13) j)), (1, .int (oc_mo (F 13) j)), (0, .ref (u 3))]) hx hb dX3_own_14 hl (by decide) rfl (fun ls hl => ?_)
        have lp16 : ∀ (n : Nat) (k : Nat) (x : Int32), (k ≤ 10) → (11 ≤ k + n) → (x = od_m1 (F 13) (oc_mo (F 13) j) k) → ∀ (ls : Array Slot), lv_has ls 5 [(4, .int (nI k)), (3, .int x), (2, .int (oc_mo (F 13) j)), (1, .int (oc_mo (F 13) j)), (0, .ref (u 3))] → W p l e (oc_rm 1 17 0 0) s m ([.ref (u 3)] : List Value).toArray below meth c s.heap [] 0 0 (oc_Q oc_N below s (oc_R (some (.int (oc_mo (F 13) (oc_mr (I 15))))) s.heap)) (F0 m 16 ls []) := by
          intro n
          induction n with
          | zero => intro k x hk hn2 ex ls hl; exact absurd hn2 (by omega)
          | succ n ih16 =>
            intro k x hk hn2 ex ls hl
            refine lv_iload hx hb dX3_own_16 (lv_at hl 0 rfl) ?_
            refine lv_bipush (v := 10) hx hb dX3_own_18 (by decide) ?_
            refine lv_icmp_ge (x := nI k) (y := 10) (tgt := 50) hx hb dX3_own_20 (by decide) (fun c20 => ?_) (fun c20 => ?_)
            · -- taken
              rw [oc_le (x := 10) (y := nI k) (a := 10) (b := k) rfl rfl (by omega) (by omega)] at c20
              have hx10 : x = oc_mo (F 13) (j + 1) := by rw [ex, show k = 10 by omega, od_round hsym]; rfl
              subst hx10
              refine lv_iload_n hx hb dX3_own_50 rfl (lv_at hl 1 rfl) ?_
              refine lv_istore_n (lv' := [(1, .int (oc_mo (F 13) (j + 1))), (4, .int (nI k)), (3, .int (oc_mo (F 13) (j + 1))), (2, .int (oc_mo (F 13) j)), (0, .ref (u 3))]) hx hb dX3_own_51 rfl hl (by decide) rfl (fun ls hl => ?_)
              refine lv_aload_n hx hb dX3_own_52 rfl (lv_at hl 4 rfl) ?_
              refine va_get (D := D) (ci := 2) (v := .int (I 15)) (C := RX3) (T := TX3) (N := 12) hx hb hts in_X3 hown hK hP 0 rfl rfl 4 (by decide) (hts _ q130) (fun _ h9 => h9) rfl dX3_own_53 ?_
              refine lv_if_ne (x := I 15) (tgt := 61) hx hb dX3_own_56 (by decide) (fun c56 => ?_) (fun c56 => ?_)
              · -- taken
                refine lv_goto (tgt := 4) hx hb dX3_own_61 (by decide) ?_
                exact ih4 (j + 1) (oc_mo (F 13) j) (by omega) (by omega) (by rw [if_neg (by omega)]; rfl) (fun e => absurd e c56) ls (lv_sub hl [3, 0, 4] rfl)
              · -- not taken
                refine lv_iload_n hx hb dX3_own_59 rfl (lv_at hl 0 rfl) ?_
                exact oc_iret hx hb hr hlocks va_S.rf dX3_own_60 (oc_Ri (od_ownC hf0 c56))
            · -- not taken
              rw [oc_le (x := 10) (y := nI k) (a := 10) (b := k) rfl rfl (by omega) (by omega)] at c20
              refine lv_iload_n hx hb dX3_own_23 rfl (lv_at hl 1 rfl) ?_
              refine oc_cut (g2 := F0 m 42 ls [.int (if od_tb (F 13) k (oc_mo (F 13) j) 10 = true then 1 <<< (nI k &&& 31) else 0), .int x]) ?_ (fun K42 => ?_)
              · -- behind 42
                refine lv_ior hx hb dX3_own_42 ?_
                refine lv_istore_n (lv' := [(3, .int (x ||| (if od_tb (F 13) k (oc_mo (F 13) j) 10 = true then 1 <<< (nI k &&& 31) else 0))), (4, .int (nI k)), (2, .int (oc_mo (F 13) j)), (1, .int (oc_mo (F 13) j)), (0, .ref (u 3))]) hx hb dX3_own_43 rfl hl (by decide) rfl (fun ls hl => ?_)
                refine lv_iinc (v := nI (k + 1)) (lv' := [(4, .int (nI (k + 1))), (3, .int (x ||| (if od_tb (F 13) k (oc_mo (F 13) j) 10 = true then 1 <<< (nI k &&& 31) else 0))), (2, .int (oc_mo (F 13) j)), (1, .int (oc_mo (F 13) j)), (0, .ref (u 3))]) hx hb dX3_own_44 hl (k := 1) rfl (nI_1 k) (by decide) rfl (fun ls hl => ?_)
                refine lv_goto (tgt := 16) hx hb dX3_own_47 (by decide) ?_
                exact ih16 (k + 1) (x ||| (if od_tb (F 13) k (oc_mo (F 13) j) 10 = true then 1 <<< (nI k &&& 31) else 0)) (by omega) (by omega) (by rw [ex]; rfl) ls (lv_sub hl [0, 1, 2, 3, 4] rfl)
              · -- up to 42
                refine lv_aload_n hx hb dX3_own_24 rfl (lv_at hl 4 rfl) ?_
                refine lv_iload hx hb dX3_own_25 (lv_at hl 0 rfl) ?_
                refine lv_iload_n hx hb dX3_own_27 rfl (lv_at hl 3 rfl) ?_
                refine oc_callR1 hx hb hml hl.1 hZ (oc_iV (As := [.int (nI k), .int (oc_mo (F 13) j)]) (rest := [.int x]) hx hb hown (hts _ q536) (hts _ q538) (hts _ qs12) (oc_Sig.of (hts _ q539) (by decide +kernel : (parseMethodDescriptor "(II)Z").map (fun d => d.parameters.length) = some 2)) (va_recv hK hP (ci := 2) (q0 := 0) rfl rfl) ⟨by decide, by decide⟩ dX3_own_28 rfl) (oc_M.of (by decide +kernel) (hts _ q539)) (kX3_touches G hP (oc_mo (F 13) j) k (by omega)) dX3_own_28 (Nat.le_of_ble_eq_true rfl) (Nat.le_of_ble_eq_true rfl) (by dsimp only [oc_rm]; omega) (by dsimp only [oc_rm]; omega) ?_
                refine lv_if_eq (x := oc_b (od_tb (F 13) k (oc_mo (F 13) j) 10)) (tgt := 41) hx hb dX3_own_31 (by decide) (fun c31 => ?_) (fun c31 => ?_)
                · -- taken
                  rw [oc_b0] at c31
                  refine lv_iconst (v := 0) hx hb dX3_own_41 (by decide) ?_
                  exact oc_topi (x := 0) (by simp [*]) K42
                · -- not taken
                  rw [oc_b0] at c31
                  rw [Bool.not_eq_false] at c31
                  refine lv_iconst (v := 1) hx hb dX3_own_34 (by decide) ?_
                  refine lv_iload hx hb dX3_own_35 (lv_at hl 0 rfl) ?_
                  refine lv_ishl hx hb dX3_own_37 ?_
                  refine lv_goto (tgt := 42) hx hb dX3_own_38 (by decide) ?_
                  exact oc_topi (x := 1 <<< ((nI k) &&& 31)) (by simp [*]) K42
        exact lp16 11 0 (oc_mo (F 13) j) (by omega) (by omega) rfl ls (lv_sub hl [0, 1, 2, 3, 4] rfl)
  exact lp4 11 0 0 (by omega) (by omega) rfl (fun _ => rfl) ls (lv_sub hl [0, 1, 2] rfl)
set_option maxHeartbeats 4000000 in
set_option maxRecDepth 100000 in
theorem kX3_isForeign {l : Launch} {s0 : State} {b0 : Addr} {D : va_G} {d : Nat → ClassId} (G : oc_G l s0 b0 D d) {H : Heap} {u : Nat → Nat} {I : Nat → Int32} {F : Nat → Nat → Int32} {cd : Int32} {pr : Int64} {sz : Int32} (hP : va_P D oc_cl ([(u 3, .inr (2, [.ref (u 6), .int (I 11), .int (I 12), .int (I 14), .int (I 15), .int (I 16), .int (I 17), .ref (u 4), .int cd, .long pr, .ref (u 5), .int sz])), (u 4, .inl (d 1, 100, .inl (F 13)))] : va_W) H) (hsym : od_sym (F 13)) (y : Nat) (x0 x : Int32) (v : Int64) (hy : va_P D oc_cl ([(y, .inr (12, [.int x0, .int x, .long v]))] : va_W) H) : oc_C l s0 yX3_isForeign (oc_rm 2 33 0 0) [.ref (u 3), .ref y] H oc_N (oc_R (some (.int (oc_b (!oc_mw I F x)))) H) := by
  refine oc_start G (cc := cX3_isForeign) (L := 2) (ret := (Option.some Jvm.ClassFile.FieldType.boolean)) q531 (Nat.le_of_ble_eq_true rfl) ?_
  intro p e s m below meth c ls hx hok hb hml hr hlocks htab hown hts hK hmn hh hl
  subst hh
  have hl : lv_has ls 2 [(0, .ref (u 3)), (1, .ref y)] := hl
  have hZ := oc_Z0 hok
  refine lv_aload_n hx hb dX3_isForeign_0 rfl (lv_at hl 0 rfl) ?_
  refine oc_callR1 hx hb hml hl.1 hZ (oc_iV (As := []) (rest := []) hx hb hown (hts _ q532) (hts _ q533) (hts _ q534) (oc_Sig.of (hts _ q535) (by decide +kernel : (parseMethodDescriptor "()I").map (fun d => d.parameters.length) = some 0)) (va_recv hK hP (ci := 2) (q0 := 0) rfl rfl) ⟨by decide, by decide⟩ dX3_isForeign_1 rfl) (oc_M.of (by decide +kernel) (hts _ q535)) (kX3_own G hP hsym) dX3_isForeign_1 (Nat.le_of_ble_eq_true rfl) (Nat.le_of_ble_eq_true rfl) (by dsimp only [oc_rm]; omega) (by dsimp only [oc_rm]; omega) ?_
  refine lv_aload_n hx hb dX3_isForeign_4 rfl (lv_at hl 1 rfl) ?_
  refine va_getN (D := D) (ci := 12) (v := .int x) (C := RX14) (T := TX14) (N := 3) hx hb hts in_X14 hown hK hy 0 rfl rfl 1 (by decide) (oc_wF G hok q605) (fun _ h9 => h9) rfl dX3_isForeign_5 ?_
  refine lv_ishr hx hb dX3_isForeign_8 ?_
  refine lv_iconst (v := 1) hx hb dX3_isForeign_9 (by decide) ?_
  refine lv_iand hx hb dX3_isForeign_10 ?_
  refine lv_if_ne (x := ((oc_mo (F 13) (oc_mr (I 15))) >>> (x &&& 31)) &&& 1) (tgt := 18) hx hb dX3_isForeign_11 (by decide) (fun c11 => ?_) (fun c11 => ?_)
  · -- taken
    refine lv_iconst (v := 0) hx hb dX3_isForeign_18 (by decide) ?_
    exact oc_zret hx hb hr hlocks va_S.rf dX3_isForeign_19 rfl (oc_Ri (by rw [show oc_mw I F x = true from decide_eq_true (od_fa c11)]; rfl))
  · -- not taken
    refine lv_iconst (v := 1) hx hb dX3_isForeign_14 (by decide) ?_
    refine lv_goto (tgt := 19) hx hb dX3_isForeign_15 (by decide) ?_
    exact oc_zret hx hb hr hlocks va_S.rf dX3_isForeign_19 rfl (oc_Ri (by rw [show oc_mw I F x = false from decide_eq_false (od_fb c11)]; rfl))
theorem od_recv {D : va_G} {d : Nat → ClassId} {E0 : Nat} {s : State} {H : Heap} {a ar n cp : Nat} {el : Nat → Option Nat} (hK : va_K D oc_cl (oc_ty d) s) (h : od_L D d E0 H a ar n cp el) : oc_recv RJ2 a s H := by
  obtain ⟨⟨mc, h1⟩, -⟩ := h
  exact va_recv hK (oc_P1 h1) (ci := 4) (q0 := 0) rfl rfl
set_option maxHeartbeats 4000000 in
set_option maxRecDepth 100000 in
theorem kX3_foreign {l : Launch} {s0 : State} {b0 : Addr} {D : va_G} {d : Nat → ClassId} (G : oc_G l s0 b0 D d) {H : Heap} {u : Nat → Nat} {I : Nat → Int32} {F : Nat → Nat → Int32} {cd : Int32} {pr : Int64} {sz : Int32} (hP : va_P D oc_cl ([(u 3, .inr (2, [.ref (u 6), .int (I 11), .int (I 12), .int (I 14), .int (I 15), .int (I 16), .int (I 17), .ref (u 4), .int cd, .long pr, .ref (u 5), .int sz])), (u 4, .inl (d 1, 100, .inl (F 13)))] : va_W) H) {L : Nat → Int64} {E0 ar N cp : Nat} {el : Nat → Option Nat} (hL : od_L D d E0 H (u 6) ar N cp el) (hpt : ∀ j, j < N → ∃ y, el j = some y ∧ va_at D oc_cl (y, .inr (12, [.int (F 8 j), .int (F 9 j), .long (L j)])) H) (h12 : N ≤ 12) (hsym : od_sym (F 13)) : oc_C l s0 yX3_foreign (oc_rm 3 48 0 0) [.ref (u 3)] H oc_N (oc_R (some (.long (oc_mf I F L N))) H) := by
  refine oc_start G (cc := cX3_foreign) (L := 4) (ret := (Option.some Jvm.ClassFile.FieldType.long)) q694 (Nat.le_of_ble_eq_true rfl) ?_
  intro p e s m below meth c ls hx hok hb hml hr hlocks htab hown hts hK hmn hh hl
  subst hh
  have hl : lv_has ls 4 [(0, .ref (u 3))] := hl
  have hZ := oc_Z0 hok
  refine lv_lconst (v := 0) hx hb dX3_foreign_0 (by decide) ?_
  refine lv_lstore_n (lv' := [(1, .long 0), (0, .ref (u 3))]) hx hb dX3_foreign_1 rfl hl (by decide) rfl (fun ls hl => ?_)
  refine lv_iconst (v := 0) hx hb dX3_foreign_2 (by decide) ?_
  refine lv_istore_n (lv' := [(3, .int 0), (1, .long 0), (0, .ref (u 3))]) hx hb dX3_foreign_3 rfl hl (by decide) rfl (fun ls hl => ?_)
  have lp4 : ∀ (n : Nat) (k : Nat) (x : Int64), (k ≤ N) → (N + 1 ≤ k + n) → (x = oc_mf I F L k) → ∀ (ls : Array Slot), lv_has ls 4 [(3, .int (nI k)), (1, .long x), (0, .ref (u 3))] → W p l e (oc_rm 3 48 0 0) s m ([.ref (u 3)] : List Value).toArray below meth c s.heap [] 0 0 (oc_Q oc_N below s (oc_R (some (.long (oc_mf I F L N))) s.heap)) (F0 m 4 ls []) := by
    intro n
    induction n with
    | zero => intro k x hk hn ex ls hl; exact absurd hn (by omega)
    | succ n ih4 =>
      intro k x hk hn ex ls hl
      refine lv_iload_n hx hb dX3_foreign_4 rfl (lv_at hl 0 rfl) ?_
      refine lv_aload_n hx hb dX3_foreign_5 rfl (lv_at hl 2 rfl) ?_
      refine va_get (D := D) (ci := 2) (v := .ref (u 6)) (C := RX3) (T := TX3) (N := 12) hx hb hts in_X3 hown hK hP 0 rfl rfl 0 (by decide) (hts _ q123) (fun _ h9 => h9) rfl dX3_foreign_6 ?_
      refine oc_callR1 hx hb hml hl.1 hZ (oc_iV (As := []) (rest := [.int (nI k)]) hx hb hown (hts _ q681) (hts _ q468) (hts _ q469) (oc_Sig.of (hts _ q470) (by decide +kernel : (parseMethodDescriptor "()I").map (fun d => d.parameters.length) = some 0)) (od_recv hK hL) ⟨by decide, by decide⟩ dX3_foreign_9 rfl) (oc_M.of (by decide +kernel) (hts _ q470)) (od_size G hL) dX3_foreign_9 (Nat.le_of_ble_eq_true rfl) (Nat.le_of_ble_eq_true rfl) (by dsimp only [oc_rm]; omega) (by dsimp only [oc_rm]; omega) ?_
      refine lv_icmp_ge (x := nI k) (y := nI N) (tgt := 60) hx hb dX3_foreign_12 (by decide) (fun c12 => ?_) (fun c12 => ?_)
      · -- taken
        rw [oc_le (x := nI N) (y := nI k) (a := N) (b := k) rfl rfl (by omega) (by omega)] at c12
        refine lv_lload_n hx hb dX3_foreign_60 rfl (lv_at hl 1 rfl) ?_
        exact oc_lret hx hb hr hlocks va_S.rf dX3_foreign_61 (oc_Rl (by rw [ex, show k = N by omega]))
      · -- not taken
        rw [oc_le (x := nI N) (y := nI k) (a := N) (b := k) rfl rfl (by omega) (by omega)] at c12
        obtain ⟨y, hy, hya⟩ := hpt k (by omega)
        refine lv_lload_n hx hb dX3_foreign_15 rfl (lv_at hl 1 rfl) ?_
        refine oc_cut (g2 := F0 m 52 ls [.long (if oc_mw I F (F 9 k) = true then 0 else L k), .long x]) ?_ (fun K52 => ?_)
        · -- behind 52
          refine lv_ladd hx hb dX3_foreign_52 ?_
          refine lv_lstore_n (lv' := [(1, .long (x + (if oc_mw I F (F 9 k) = true then 0 else L k))), (3, .int (nI k)), (0, .ref (u 3))]) hx hb dX3_foreign_53 rfl hl (by decide) rfl (fun ls hl => ?_)
          refine lv_iinc (v := nI (k + 1)) (lv' := [(3, .int (nI (k + 1))), (1, .long (x + (if oc_mw I F (F 9 k) = true then 0 else L k))), (0, .ref (u 3))]) hx hb dX3_foreign_54 hl (k := 1) rfl (nI_1 k) (by decide) rfl (fun ls hl => ?_)
          refine lv_goto (tgt := 4) hx hb dX3_foreign_57 (by decide) ?_
          exact ih4 (k + 1) (x + (if oc_mw I F (F 9 k) = true then 0 else L k)) (by omega) (by omega) (by rw [ex]; rfl) ls (lv_sub hl [0, 1, 2] rfl)
        · -- up to 52
          refine lv_aload_n hx hb dX3_foreign_16 rfl (lv_at hl 2 rfl) ?_
          refine lv_aload_n hx hb dX3_foreign_17 rfl (lv_at hl 2 rfl) ?_
          refine va_get (D := D) (ci := 2) (v := .ref (u 6)) (C := RX3) (T := TX3) (N := 12) hx hb hts in_X3 hown hK hP 0 rfl rfl 0 (by decide) (hts _ q123) (fun _ h9 => h9) rfl dX3_foreign_18 ?_
          refine lv_iload_n hx hb dX3_foreign_21 rfl (lv_at hl 0 rfl) ?_
          refine oc_callR1 hx hb hml hl.1 hZ (oc_iV (As := [.int (nI k)]) (rest := [.ref (u 3), .long x]) hx hb hown (hts _ q682) (hts _ q514) (hts _ q515) (oc_Sig.of (hts _ q516) (by decide +kernel : (parseMethodDescriptor "(I)Ljava/lang/Object;").map (fun d => d.parameters.length) = some 1)) (od_recv hK hL) ⟨by decide, by decide⟩ dX3_foreign_22 rfl) (oc_M.of (by decide +kernel) (hts _ q516)) (od_get G hL (k := k) (by omega) hy) dX3_foreign_22 (Nat.le_of_ble_eq_true rfl) (Nat.le_of_ble_eq_true rfl) (by dsimp only [oc_rm]; omega) (by dsimp only [oc_rm]; omega) ?_
          refine va_castS hx hb hown (hts _ q683) (hK.1 12 _ rfl).2 (va_recv hK (oc_P1 hya) (ci := 12) (q0 := 0) rfl rfl) dX3_foreign_25 ?_
          refine oc_callR1 hx hb hml hl.1 hZ (oc_iV (As := [.ref y]) (rest := [.long x]) hx hb hown (hts _ q684) (hts _ q529) (hts _ q530) (oc_Sig.of (hts _ q531) (by decide +kernel : (parseMethodDescriptor "(LOriginRules$Part;)Z").map (fun d => d.parameters.length) = some 1)) (va_recv hK hP (ci := 2) (q0 := 0) rfl rfl) ⟨by decide, by decide⟩ dX3_foreign_28 rfl) (oc_M.of (by decide +kernel) (hts _ q531)) (kX3_isForeign G hP hsym y (F 8 k) (F 9 k) (L k) (oc_P1 hya)) dX3_foreign_28 (Nat.le_of_ble_eq_true rfl) (Nat.le_of_ble_eq_true rfl) (by dsimp only [oc_rm]; omega) (by dsimp only [oc_rm]; omega) ?_
          refine lv_if_eq (x := oc_b (!oc_mw I F (F 9 k))) (tgt := 51) hx hb dX3_foreign_31 (by decide) (fun c31 => ?_) (fun c31 => ?_)
          · -- taken
            rw [oc_b0] at c31
            refine lv_lconst (v := 0) hx hb dX3_foreign_51 (by decide) ?_
            exact oc_topl (x := 0) (by simp_all) K52
          · -- not taken
            rw [oc_b0] at c31
            rw [Bool.not_eq_false] at c31
            refine lv_aload_n hx hb dX3_foreign_34 rfl (lv_at hl 2 rfl) ?_
            refine va_get (D := D) (ci := 2) (v := .ref (u 6)) (C := RX3) (T := TX3) (N := 12) hx hb hts in_X3 hown hK hP 0 rfl rfl 0 (by decide) (hts _ q123) (fun _ h9 => h9) rfl dX3_foreign_35 ?_
            refine lv_iload_n hx hb dX3_foreign_38 rfl (lv_at hl 0 rfl) ?_
            refine oc_callR1 hx hb hml hl.1 hZ (oc_iV (As := [.int (nI k)]) (rest := [.long x]) hx hb hown (hts _ q682) (hts _ q514) (hts _ q515) (oc_Sig.of (hts _ q516) (by decide +kernel : (parseMethodDescriptor "(I)Ljava/lang/Object;").map (fun d => d.parameters.length) = some 1)) (od_recv hK hL) ⟨by decide, by decide⟩ dX3_foreign_39 rfl) (oc_M.of (by decide +kernel) (hts _ q516)) (od_get G hL (k := k) (by omega) hy) dX3_foreign_39 (Nat.le_of_ble_eq_true rfl) (Nat.le_of_ble_eq_true rfl) (by dsimp only [oc_rm]; omega) (by dsimp only [oc_rm]; omega) ?_
            refine va_castS hx hb hown (hts _ q683) (hK.1 12 _ rfl).2 (va_recv hK (oc_P1 hya) (ci := 12) (q0 := 0) rfl rfl) dX3_foreign_42 ?_
            refine va_getN (D := D) (ci := 12) (v := .long (L k)) (C := RX14) (T := TX14) (N := 3) hx hb hts in_X14 hown hK (oc_P1 hya) 0 rfl rfl 2 (by decide) (oc_wF G hok q607) (fun _ h9 => h9) rfl dX3_foreign_45 ?_
            refine lv_goto (tgt := 52) hx hb dX3_foreign_48 (by decide) ?_
            exact oc_topl (x := L k) (by simp_all) K52
  exact lp4 (N + 1) 0 0 (by omega) (by omega) rfl ls (lv_sub hl [0, 1, 2] rfl)
set_option maxHeartbeats 4000000 in
set_option maxRecDepth 100000 in
theorem kX3_changes {l : Launch} {s0 : State} {b0 : Addr} {D : va_G} {d : Nat → ClassId} (G : oc_G l s0 b0 D d) {H : Heap} (z : Int32) (hz : ¬ z = 0) {u : Nat → Nat} {I : Nat → Int32} {F : Nat → Nat → Int32} {cd : Int32} {pr : Int64} {sz : Int32} (hP : va_P D oc_cl ([(u 3, .inr (2, [.ref (u 6), .int (I 11), .int (I 12), .int (I 14), .int (I 15), .int (I 16), .int (I 17), .ref (u 4), .int cd, .long pr, .ref (u 5), .int sz])), (u 4, .inl (d 1, 100, .inl (F 13)))] : va_W) H) {L : Nat → Int64} {E0 ar N cp : Nat} {el : Nat → Option Nat} (hL : od_L D d E0 H (u 6) ar N cp el) (hpt : ∀ j, j < N → ∃ y, el j = some y ∧ va_at D oc_cl (y, .inr (12, [.int (F 8 j), .int (F 9 j), .long (L j)])) H) (h12 : N ≤ 12) (hsym : od_sym (F 13)) : oc_C l s0 yX3_changes (oc_rm 3 48 0 0) [.ref (u 3), .int z] H oc_N (oc_R (some (.int (oc_b (!decide (pr * (I 16).toInt64 < oc_mt I F L cd z N * (I 17).toInt64))))) H) := by
  refine oc_start G (cc := cX3_changes) (L := 6) (ret := (Option.some Jvm.ClassFile.FieldType.boolean)) q680 (Nat.le_of_ble_eq_true rfl) ?_
  intro p e s m below meth c ls hx hok hb hml hr hlocks htab hown hts hK hmn hh hl
  subst hh
  have hl : lv_has ls 6 [(0, .ref (u 3)), (1, .int z)] := hl
  have hZ := oc_Z0 hok
  refine lv_lconst (v := 0) hx hb dX3_changes_0 (by decide) ?_
  refine lv_lstore_n (lv' := [(2, .long 0), (0, .ref (u 3)), (1, .int z)]) hx hb dX3_changes_1 rfl hl (by decide) rfl (fun ls hl => ?_)
  refine lv_iconst (v := 0) hx hb dX3_changes_2 (by decide) ?_
  refine lv_istore (lv' := [(4, .int 0), (2, .long 0), (0, .ref (u 3)), (1, .int z)]) hx hb dX3_changes_3 hl (by decide) rfl (fun ls hl => ?_)
  have lp5 : ∀ (n : Nat) (k : Nat) (x : Int64), (k ≤ N) → (N + 1 ≤ k + n) → (x = oc_mt I F L cd z k) → ∀ (ls : Array Slot), lv_has ls 6 [(4, .int (nI k)), (2, .long x), (0, .ref (u 3)), (1, .int z)] → W p l e (oc_rm 3 48 0 0) s m ([.ref (u 3), .int z] : List Value).toArray below meth c s.heap [] 0 0 (oc_Q oc_N below s (oc_R (some (.int (oc_b (!decide (pr * (I 16).toInt64 < oc_mt I F L cd z N * (I 17).toInt64))))) s.heap)) (F0 m 5 ls []) := by
    intro n
    induction n with
    | zero => intro k x hk hn ex ls hl; exact absurd hn (by omega)
    | succ n ih5 =>
      intro k x hk hn ex ls hl
      refine lv_iload hx hb dX3_changes_5 (lv_at hl 0 rfl) ?_
      refine lv_aload_n hx hb dX3_changes_7 rfl (lv_at hl 2 rfl) ?_
      refine va_get (D := D) (ci := 2) (v := .ref (u 6)) (C := RX3) (T := TX3) (N := 12) hx hb hts in_X3 hown hK hP 0 rfl rfl 0 (by decide) (hts _ q123) (fun _ h9 => h9) rfl dX3_changes_8 ?_
      refine oc_callR1 hx hb hml hl.1 hZ (oc_iV (As := []) (rest := [.int (nI k)]) hx hb hown (hts _ q681) (hts _ q468) (hts _ q469) (oc_Sig.of (hts _ q470) (by decide +kernel : (parseMethodDescriptor "()I").map (fun d => d.parameters.length) = some 0)) (od_recv hK hL) ⟨by decide, by decide⟩ dX3_changes_11 rfl) (oc_M.of (by decide +kernel) (hts _ q470)) (od_size G hL) dX3_changes_11 (Nat.le_of_ble_eq_true rfl) (Nat.le_of_ble_eq_true rfl) (by dsimp only [oc_rm]; omega) (by dsimp only [oc_rm]; omega) ?_
      refine lv_icmp_ge (x := nI k) (y := nI N) (tgt := 74) hx hb dX3_changes_14 (by decide) (fun c14 => ?_) (fun c14 => ?_)
      · -- taken
        rw [oc_le (x := nI N) (y := nI k) (a := N) (b := k) rfl rfl (by omega) (by omega)] at c14
        have hkN : k = N := by omega
        subst hkN
        subst ex
        refine lv_lload_n hx hb dX3_changes_74 rfl (lv_at hl 1 rfl) ?_
        refine lv_aload_n hx hb dX3_changes_75 rfl (lv_at hl 2 rfl) ?_
        refine va_get (D := D) (ci := 2) (v := .int (I 17)) (C := RX3) (T := TX3) (N := 12) hx hb hts in_X3 hown hK hP 0 rfl rfl 6 (by decide) (hts _ q134) (fun _ h9 => h9) rfl dX3_changes_76 ?_
        refine lv_i2l (v := (I 17).toInt64) hx hb dX3_changes_79 rfl ?_
        refine lv_lmul hx hb dX3_changes_80 ?_
        refine lv_aload_n hx hb dX3_changes_81 rfl (lv_at hl 2 rfl) ?_
        refine va_get (D := D) (ci := 2) (v := .long pr) (C := RX3) (T := TX3) (N := 12) hx hb hts in_X3 hown hK hP 0 rfl rfl 9 (by decide) (hts _ q141) (fun _ h9 => h9) rfl dX3_changes_82 ?_
        refine lv_aload_n hx hb dX3_changes_85 rfl (lv_at hl 2 rfl) ?_
        refine va_get (D := D) (ci := 2) (v := .int (I 16)) (C := RX3) (T := TX3) (N := 12) hx hb hts in_X3 hown hK hP 0 rfl rfl 5 (by decide) (hts _ q132) (fun _ h9 => h9) rfl dX3_changes_86 ?_
        refine lv_i2l (v := (I 16).toInt64) hx hb dX3_changes_89 rfl ?_
        refine lv_lmul hx hb dX3_changes_90 ?_
        refine W.lcmp hx hb dX3_changes_91 ?_
        refine lv_if_gt (tgt := 99) hx hb dX3_changes_92 (by decide) (fun c92 => ?_) (fun c92 => ?_)
        · -- taken
          rw [lg_cmp_gt] at c92
          refine lv_iconst (v := 0) hx hb dX3_changes_99 (by decide) ?_
          exact oc_zret hx hb hr hlocks va_S.rf dX3_changes_100 rfl (oc_Ri (by simp [oc_b, *]))
        · -- not taken
          rw [lg_cmp_gt] at c92
          refine lv_iconst (v := 1) hx hb dX3_changes_95 (by decide) ?_
          refine lv_goto (tgt := 100) hx hb dX3_changes_96 (by decide) ?_
          exact oc_zret hx hb hr hlocks va_S.rf dX3_changes_100 rfl (oc_Ri (by simp [oc_b, *]))
      · -- not taken
        rw [oc_le (x := nI N) (y := nI k) (a := N) (b := k) rfl rfl (by omega) (by omega)] at c14
        obtain ⟨y, hy, hya⟩ := hpt k (by omega)
        refine lv_aload_n hx hb dX3_changes_17 rfl (lv_at hl 2 rfl) ?_
        refine va_get (D := D) (ci := 2) (v := .ref (u 6)) (C := RX3) (T := TX3) (N := 12) hx hb hts in_X3 hown hK hP 0 rfl rfl 0 (by decide) (hts _ q123) (fun _ h9 => h9) rfl dX3_changes_18 ?_
        refine lv_iload hx hb dX3_changes_21 (lv_at hl 0 rfl) ?_
        refine oc_callR1 hx hb hml hl.1 hZ (oc_iV (As := [.int (nI k)]) (rest := []) hx hb hown (hts _ q682) (hts _ q514) (hts _ q515) (oc_Sig.of (hts _ q516) (by decide +kernel : (parseMethodDescriptor "(I)Ljava/lang/Object;").map (fun d => d.parameters.length) = some 1)) (od_recv hK hL) ⟨by decide, by decide⟩ dX3_changes_23 rfl) (oc_M.of (by decide +kernel) (hts _ q516)) (od_get G hL (k := k) (by omega) hy) dX3_changes_23 (Nat.le_of_ble_eq_true rfl) (Nat.le_of_ble_eq_true rfl) (by dsimp only [oc_rm]; omega) (by dsimp only [oc_rm]; omega) ?_
        refine va_castS hx hb hown (hts _ q683) (hK.1 12 _ rfl).2 (va_recv hK (oc_P1 hya) (ci := 12) (q0 := 0) rfl rfl) dX3_changes_26 ?_
        refine lv_astore (lv' := [(5, .ref y), (4, .int (nI k)), (2, .long x), (0, .ref (u 3)), (1, .int z)]) hx hb dX3_changes_29 hl (by decide) rfl (fun ls hl => ?_)
        refine lv_lload_n hx hb dX3_changes_31 rfl (lv_at hl 2 rfl) ?_
        refine oc_cut (g2 := F0 m 66 ls [.long (if oc_ms I F cd z k = true then L k else 0), .long x]) ?_ (fun K66 => ?_)
        · -- behind 66
          refine lv_ladd hx hb dX3_changes_66 ?_
          refine lv_lstore_n (lv' := [(2, .long (x + (if oc_ms I F cd z k = true then L k else 0))), (5, .ref y), (4, .int (nI k)), (0, .ref (u 3)), (1, .int z)]) hx hb dX3_changes_67 rfl hl (by decide) rfl (fun ls hl => ?_)
          refine lv_iinc (v := nI (k + 1)) (lv' := [(4, .int (nI (k + 1))), (2, .long (x + (if oc_ms I F cd z k = true then L k else 0))), (5, .ref y), (0, .ref (u 3)), (1, .int z)]) hx hb dX3_changes_68 hl (k := 2) rfl (nI_1 k) (by decide) rfl (fun ls hl => ?_)
          refine lv_goto (tgt := 5) hx hb dX3_changes_71 (by decide) ?_
          exact ih5 (k + 1) (x + (if oc_ms I F cd z k = true then L k else 0)) (by omega) (by omega) (by rw [ex]; rfl) ls (lv_sub hl [0, 1, 3, 4] rfl)
        · -- up to 66
          refine lv_aload_n hx hb dX3_changes_32 rfl (lv_at hl 3 rfl) ?_
          refine lv_aload hx hb dX3_changes_33 (lv_at hl 0 rfl) ?_
          refine oc_callR1 hx hb hml hl.1 hZ (oc_iV (As := [.ref y]) (rest := [.long x]) hx hb hown (hts _ q684) (hts _ q529) (hts _ q530) (oc_Sig.of (hts _ q531) (by decide +kernel : (parseMethodDescriptor "(LOriginRules$Part;)Z").map (fun d => d.parameters.length) = some 1)) (va_recv hK hP (ci := 2) (q0 := 0) rfl rfl) ⟨by decide, by decide⟩ dX3_changes_35 rfl) (oc_M.of (by decide +kernel) (hts _ q531)) (kX3_isForeign G hP hsym y (F 8 k) (F 9 k) (L k) (oc_P1 hya)) dX3_changes_35 (Nat.le_of_ble_eq_true rfl) (Nat.le_of_ble_eq_true rfl) (by dsimp only [oc_rm]; omega) (by dsimp only [oc_rm]; omega) ?_
          refine lv_if_eq (x := oc_b (!oc_mw I F (F 9 k))) (tgt := 65) hx hb dX3_changes_38 (by decide) (fun c38 => ?_) (fun c38 => ?_)
          · -- taken
            rw [oc_b0] at c38
            refine lv_lconst (v := 0) hx hb dX3_changes_65 (by decide) ?_
            exact oc_topl (x := 0) (by simp_all [oc_ms]) K66
          · -- not taken
            rw [oc_b0] at c38
            rw [Bool.not_eq_false] at c38
            refine lv_aload hx hb dX3_changes_41 (lv_at hl 0 rfl) ?_
            refine va_getN (D := D) (ci := 12) (v := .int (F 8 k)) (C := RX14) (T := TX14) (N := 3) hx hb hts in_X14 hown hK (oc_P1 hya) 0 rfl rfl 0 (by decide) (oc_wF G hok q603) (fun _ h9 => h9) rfl dX3_changes_43 ?_
            refine lv_iload_n hx hb dX3_changes_46 rfl (lv_at hl 4 rfl) ?_
            refine lv_idiv hx hb dX3_changes_47 hz ?_
            refine lv_aload_n hx hb dX3_changes_48 rfl (lv_at hl 3 rfl) ?_
            refine va_get (D := D) (ci := 2) (v := .int cd) (C := RX3) (T := TX3) (N := 12) hx hb hts in_X3 hown hK hP 0 rfl rfl 8 (by decide) (hts _ q138) (fun _ h9 => h9) rfl dX3_changes_49 ?_
            refine lv_iload_n hx hb dX3_changes_52 rfl (lv_at hl 4 rfl) ?_
            refine lv_idiv hx hb dX3_changes_53 hz ?_
            refine lv_icmp_ne (x := (F 8 k) / z) (y := cd / z) (tgt := 65) hx hb dX3_changes_54 (by decide) (fun c54 => ?_) (fun c54 => ?_)
            · -- taken
              refine lv_lconst (v := 0) hx hb dX3_changes_65 (by decide) ?_
              exact oc_topl (x := 0) (by simp_all [oc_ms]) K66
            · -- not taken
              refine lv_aload hx hb dX3_changes_57 (lv_at hl 0 rfl) ?_
              refine va_getN (D := D) (ci := 12) (v := .long (L k)) (C := RX14) (T := TX14) (N := 3) hx hb hts in_X14 hown hK (oc_P1 hya) 0 rfl rfl 2 (by decide) (oc_wF G hok q607) (fun _ h9 => h9) rfl dX3_changes_59 ?_
              refine lv_goto (tgt := 66) hx hb dX3_changes_62 (by decide) ?_
              exact oc_topl (x := L k) (by simp_all [oc_ms]) K66
  exact lp5 (N + 1) 0 0 (by omega) (by omega) rfl ls (lv_sub hl [0, 1, 2, 3] rfl)
set_option maxHeartbeats 4000000 in
set_option maxRecDepth 100000 in
theorem kX3_tell {l : Launch} {s0 : State} {b0 : Addr} {D : va_G} {d : Nat → ClassId} (G : oc_G l s0 b0 D d) {H : Heap} {u : Nat → Nat} {I : Nat → Int32} {cd : Int32} {pr : Int64} (x : Int32) (b : Bool) (k : Nat) (t : Nat → Int32) (hk3 : k < 300) (hP : va_P D oc_cl ([(u 3, .inr (2, [.ref (u 6), .int (I 11), .int (I 12), .int (I 14), .int (I 15), .int (I 16), .int (I 17), .ref (u 4), .int cd, .long pr, .ref (u 5), .int (nI k)])), (u 5, .inl (d 0, 300, .inl t))] : va_W) H) (hD : va_D (va_A ([(u 3, .inr (2, [.ref (u 6), .int (I 11), .int (I 12), .int (I 14), .int (I 15), .int (I 16), .int (I 17), .ref (u 4), .int cd, .long pr, .ref (u 5), .int (nI k)])), (u 5, .inl (d 0, 300, .inl t))] : va_W) (Array.size H)) ([(u 3, .inr (2, [.ref (u 6), .int (I 11), .int (I 12), .int (I 14), .int (I 15), .int (I 16), .int (I 17), .ref (u 4), .int cd, .long pr, .ref (u 5), .int (nI k)])), (u 5, .inl (d 0, 300, .inl t))] : va_W)) (hN0 : ∀ x ∈ ([(u 3, .inr (2, [.ref (u 6), .int (I 11), .int (I 12), .int (I 14), .int (I 15), .int (I 16), .int (I 17), .ref (u 4), .int cd, .long pr, .ref (u 5), .int (nI k)])), (u 5, .inl (d 0, 300, .inl t))] : va_W), s0.heap.size ≤ x.1) : oc_C l s0 yX3_tell (oc_rm 0 0 0 0) [.ref (u 3), .int x, .int (oc_b b)] H (va_A ([(u 3, .inr (2, [.ref (u 6), .int (I 11), .int (I 12), .int (I 14), .int (I 15), .int (I 16), .int (I 17), .ref (u 4), .int cd, .long pr, .ref (u 5), .int (nI k)])), (u 5, .inl (d 0, 300, .inl t))] : va_W) (Array.size H)) (oc_Pr (fun v H1 k1 n1 => v = some (.int (oc_b b)) ∧ k1 = 0 ∧ n1 = 0 ∧ va_P D oc_cl ([(u 3, .inr (2, [.ref (u 6), .int (I 11), .int (I 12), .int (I 14), .int (I 15), .int (I 16), .int (I 17), .ref (u 4), .int cd, .long pr, .ref (u 5), .int (nI (k + 1))])), (u 5, .inl (d 0, 300, .inl (upd t k (2 * x + oc_b b))))] : va_W) H1 ∧ va_D (va_A ([(u 3, .inr (2, [.ref (u 6), .int (I 11), .int (I 12), .int (I 14), .int (I 15), .int (I 16), .int (I 17), .ref (u 4), .int cd, .long pr, .ref (u 5), .int (nI k)])), (u 5, .inl (d 0, 300, .inl t))] : va_W) (Array.size H)) ([(u 3, .inr (2, [.ref (u 6), .int (I 11), .int (I 12), .int (I 14), .int (I 15), .int (I 16), .int (I 17), .ref (u 4), .int cd, .long pr, .ref (u 5), .int (nI (k + 1))])), (u 5, .inl (d 0, 300, .inl (upd t k (2 * x + oc_b b))))] : va_W))) := by
  refine oc_start G (cc := cX3_tell) (L := 3) (ret := (Option.some Jvm.ClassFile.FieldType.boolean)) q706 (Nat.le_of_ble_eq_true rfl) ?_
  intro p e s m below meth c ls hx hok hb hml hr hlocks htab hown hts hK hmn hh hl
  subst hh
  have hl : lv_has ls 3 [(0, .ref (u 3)), (1, .int x), (2, .int (oc_b b))] := hl
  have hN0 := oc_N0 hok hN0
  have hA : ∀ q, Array.size s.heap ≤ q → (va_A ([(u 3, .inr (2, [.ref (u 6), .int (I 11), .int (I 12), .int (I 14), .int (I 15), .int (I 16), .int (I 17), .ref (u 4), .int cd, .long pr, .ref (u 5), .int (nI k)])), (u 5, .inl (d 0, 300, .inl t))] : va_W) (Array.size s.heap)) q := fun q z => Or.inr z
  have hS : va_S (va_A ([(u 3, .inr (2, [.ref (u 6), .int (I 11), .int (I 12), .int (I 14), .int (I 15), .int (I 16), .int (I 17), .ref (u 4), .int cd, .long pr, .ref (u 5), .int (nI k)])), (u 5, .inl (d 0, 300, .inl t))] : va_W) (Array.size s.heap)) s.heap s.heap [] := va_S.rf
  generalize hAe : (va_A ([(u 3, .inr (2, [.ref (u 6), .int (I 11), .int (I 12), .int (I 14), .int (I 15), .int (I 16), .int (I 17), .ref (u 4), .int cd, .long pr, .ref (u 5), .int (nI k)])), (u 5, .inl (d 0, 300, .inl t))] : va_W) (Array.size s.heap)) = A at *
  refine lv_aload_n hx hb dX3_tell_0 rfl (lv_at hl 0 rfl) ?_
  refine va_get (D := D) (ci := 2) (v := .ref (u 5)) (C := RX3) (T := TX3) (N := 12) hx hb hts in_X3 hown hK hP 0 rfl rfl 10 (by decide) (hts _ q143) (fun _ h9 => h9) rfl dX3_tell_1 ?_
  refine lv_aload_n hx hb dX3_tell_4 rfl (lv_at hl 0 rfl) ?_
  refine va_get (D := D) (ci := 2) (v := .int (nI k)) (C := RX3) (T := TX3) (N := 12) hx hb hts in_X3 hown hK hP 0 rfl rfl 11 (by decide) (hts _ q145) (fun _ h9 => h9) rfl dX3_tell_5 ?_
  refine lv_iconst (v := 2) hx hb dX3_tell_8 (by decide) ?_
  refine lv_iload_n hx hb dX3_tell_9 rfl (lv_at hl 1 rfl) ?_
  refine lv_imul hx hb dX3_tell_10 ?_
  refine oc_cut (g2 := F0 m 20 ls [.int (oc_b b), .int (2 * x), .int (nI k), .ref (u 5)]) ?_ (fun K20 => ?_)
  · -- behind 20
    refine lv_iadd hx hb dX3_tell_20 ?_
    refine oc_iast hx hb hK hP hD hS 1 0 rfl rfl k rfl (by omega) (by decide) dX3_tell_21 (fun H locs hP hD hS => ?_)
    have hP : va_P D oc_cl ([(u 3, .inr (2, [.ref (u 6), .int (I 11), .int (I 12), .int (I 14), .int (I 15), .int (I 16), .int (I 17), .ref (u 4), .int cd, .long pr, .ref (u 5), .int (nI k)])), (u 5, .inl (d 0, 300, .inl (upd t k ((2 * x) + (oc_b b)))))] : va_W) H := hP
    have hD : va_D A ([(u 3, .inr (2, [.ref (u 6), .int (I 11), .int (I 12), .int (I 14), .int (I 15), .int (I 16), .int (I 17), .ref (u 4), .int cd, .long pr, .ref (u 5), .int (nI k)])), (u 5, .inl (d 0, 300, .inl (upd t k ((2 * x) + (oc_b b)))))] : va_W) := hD
    refine lv_aload_n hx hb dX3_tell_22 rfl (lv_at hl 0 rfl) ?_
    refine lv_dup hx hb dX3_tell_23 rfl ?_
    refine va_get (D := D) (ci := 2) (v := .int (nI k)) (C := RX3) (T := TX3) (N := 12) hx hb hts in_X3 hown hK hP 0 rfl rfl 11 (by decide) (hts _ q145) (fun _ h9 => h9) rfl dX3_tell_24 ?_
    refine lv_iconst (v := 1) hx hb dX3_tell_27 (by decide) ?_
    refine lv_iadd hx hb dX3_tell_28 ?_
    refine oc_topi (x := (nI k) + 1) (y := nI (k + 1)) (nI_1 k) ?_
    refine va_put (D := D) (ci := 2) (v := .int (nI (k + 1))) (ty := .int) (C := RX3) (T := TX3) (N := 12) hx hb hts in_X3 tyX3 tyX3_ok nmX3 hown hK hP hD hS 0 rfl rfl 11 (by decide) (hts _ q145) (fun _ h9 => h9) rfl (by decide +kernel) rfl rfl (Nat.le_of_ble_eq_true rfl) dX3_tell_29 (fun H locs hP hD hS => ?_)
    have hP : va_P D oc_cl ([(u 3, .inr (2, [.ref (u 6), .int (I 11), .int (I 12), .int (I 14), .int (I 15), .int (I 16), .int (I 17), .ref (u 4), .int cd, .long pr, .ref (u 5), .int (nI (k + 1))])), (u 5, .inl (d 0, 300, .inl (upd t k ((2 * x) + (oc_b b)))))] : va_W) H := hP
    have hD : va_D A ([(u 3, .inr (2, [.ref (u 6), .int (I 11), .int (I 12), .int (I 14), .int (I 15), .int (I 16), .int (I 17), .ref (u 4), .int cd, .long pr, .ref (u 5), .int (nI (k + 1))])), (u 5, .inl (d 0, 300, .inl (upd t k ((2 * x) + (oc_b b)))))] : va_W) := hD
    refine lv_iload_n hx hb dX3_tell_32 rfl (lv_at hl 2 rfl) ?_
    exact oc_zret hx hb hr hlocks hS dX3_tell_33 (oc_bn _) (⟨_, rfl, rfl, rfl, rfl, hP, hD⟩)
  · -- up to 20
    refine lv_iload_n hx hb dX3_tell_11 rfl (lv_at hl 2 rfl) ?_
    refine lv_if_eq (x := oc_b b) (tgt := 19) hx hb dX3_tell_12 (by decide) (fun c12 => ?_) (fun c12 => ?_)
    · -- taken
      rw [oc_b0] at c12
      refine lv_iconst (v := 0) hx hb dX3_tell_19 (by decide) ?_
      exact oc_topi (x := 0) (by simp [oc_b, *]) K20
    · -- not taken
      rw [oc_b0] at c12
      rw [Bool.not_eq_false] at c12
      refine lv_iconst (v := 1) hx hb dX3_tell_15 (by decide) ?_
      refine lv_goto (tgt := 20) hx hb dX3_tell_16 (by decide) ?_
      exact oc_topi (x := 1) (by simp [oc_b, *]) K20
