/-! ===== OriginRulesModel: verdict ===== -/
/-- a row's rule ends at E -/
def oc_RE (f : Nat → Int32) (b qd E : Nat) : Prop := b + qd < E ∧ E < 300 ∧ (∀ i, b + qd < i → i < E → ¬ f i = 59) ∧ f E = 59
theorem oc_ro_lt {nn : Nat → Nat} : ∀ (N : Nat) {r : Nat}, (oc_ro nn N).1 = some r → r < N := by
  intro N
  induction N with
  | zero => intro r h; cases h
  | succ n ih =>
    intro r h
    unfold oc_ro at h
    split at h
    · have := Option.some.inj h; omega
    · have := ih h; omega
def oc_vok (x : Int32) (y : Int64) : Bool := oc_in x.toInt64 1 999999 && oc_in y 0 1000000000
/-- all that is done is barred -/
def oc_bd (I : Nat → Int32) : Bool := !decide (I 11 = 0) && decide (I 11 &&& (I 12 ^^^ -1) = 0)
def sp_verdict (I : Nat → Int32) (F : Nat → Nat → Int32) (L : Nat → Int64) (ro : Option Nat) (z2 : rl_S) (x : Int32) (y : Int64) : oc_Φ := fun v I' F' L' => L' = L ∧
  ((oc_vok x y = false ∧ v = some (.int 0) ∧ I' = upd I 0 1 ∧ F' = F) ∨
   (oc_vok x y = true ∧ ro = none ∧ v = some (.int 3) ∧ I' = upd I 0 0 ∧ F' = F) ∨
   (oc_vok x y = true ∧ (∃ r, ro = some r) ∧ oc_bd I = true ∧ v = some (.int 2) ∧ I' = upd I 0 0 ∧ F' = F) ∨
   (oc_vok x y = true ∧ (∃ r, ro = some r) ∧ oc_bd I = false ∧ v = some (.int (oc_b (rl_or (z2.2.2.1 0) (z2.2.2.2.1 0)))) ∧ I' = upd (upd I 0 0) 22 (nI z2.2.2.2.2.1) ∧ F' = va_up (va_up (va_up (va_up F 24 z2.2.1) 25 z2.2.2.1) 26 z2.2.2.2.1) 23 z2.2.2.2.2.2 ∧ (∀ i, i < 9 → z2.2.2.2.1 i = 0 ∨ z2.2.2.2.1 i = 1)))
set_option maxHeartbeats 4000000 in
set_option maxRecDepth 100000 in
theorem kX4_verdict {l : Launch} {s0 : State} {b0 : Addr} {D : va_G} {d : Nat → ClassId} (G : oc_G l s0 b0 D d) {h : Nat → Nat} {I : Nat → Int32} {F : Nat → Nat → Int32} {L : Nat → Int64} {H : Heap} (hP : va_P D oc_cl (oc_mW d h I F L) H) (hD : va_D (oc_hA h) (oc_mW d h I F L)) (hN0 : ∀ q, oc_hA h q → s0.heap.size ≤ q) (x : Int32) (y : Int64) (N : Nat) (hN : I 7 = nI N) (h12 : N ≤ 12) (NR : Nat) (rb rq re ze : Nat → Nat) (z2 : rl_S) (h5 : I 5 = nI NR) (hNR : NR ≤ 20) (hR : ∀ r, r < NR → F 4 r = nI (rb r) ∧ oc_Rw (F 3) (rb r) (rq r) ∧ oc_RE (F 3) (rb r) (rq r) (re r) ∧ oc_Ze (F 3) (re r) ze) (hal : ∀ i, i < 9 → F 26 i = 0 ∨ F 26 i = 1) (hrun : ∀ r, (oc_ro (fun r => oc_bg (F 3) x (rb r) (rq r)) NR).1 = some r → rl_run (F 3) (fun q => oc_mh I F L N q (ze q) x y) (rb r) (re r - (rb r + rq r + 1)) (rb r + rq r + 1) (rl_0 F) = some z2) : oc_C l s0 yX4_verdict (oc_rm 4 77 0 0) [.ref (h 0), .int x, .long y] H (oc_hA h) (oc_Pm D d h (sp_verdict I F L (oc_ro (fun r => oc_bg (F 3) x (rb r) (rq r)) NR).1 z2 x y)) := by
  refine oc_start G (cc := cX4_verdict) (L := 5) (ret := (Option.some Jvm.ClassFile.FieldType.int)) q964 (Nat.le_of_ble_eq_true rfl) ?_
  intro p e s m below meth c ls hx hok hb hml hr hlocks htab hown hts hK hmn hh hl
  subst hh
  have hl : lv_has ls 5 [(0, .ref (h 0)), (1, .int x), (2, .long y)] := hl
  have hS : va_S (oc_hA h) s.heap s.heap [] := va_S.rf
  generalize hH0 : s.heap = H at hP ⊢
  have hS : va_S (oc_hA h) s.heap H [] := by rw [← hH0]; exact va_S.rf
  clear hH0
  generalize hlo0 : ([] : List Loc) = locs at hS ⊢
  refine lv_iload_n hx hb dX4_verdict_0 rfl (lv_at hl 1 rfl) ?_
  refine lv_i2l (v := x.toInt64) hx hb dX4_verdict_1 rfl ?_
  refine lv_lconst (v := 1) hx hb dX4_verdict_2 (by decide) ?_
  refine lv_ldc2 (v := 999999) hx hb hown (hts _ q920) dX4_verdict_3 ?_
  refine oc_callR1 hx hb hml hl.1 ⟨hok, hS, hN0⟩ (oc_iS (As := [.long x.toInt64, .long 1, .long 999999]) (rest := []) hx hb hown (hts _ q900) (hts _ q901) (hts _ q30) (hts _ q902) ⟨by decide, by decide, (by decide +kernel : (parseMethodDescriptor "(JJJ)Z").map (fun d => d.parameters.length) = some 3)⟩ dX4_verdict_6 rfl) (oc_M.of (by decide +kernel) (hts _ q902)) (kX4_in G x.toInt64 1 999999) dX4_verdict_6 (Nat.le_of_ble_eq_true rfl) (Nat.le_of_ble_eq_true rfl) (Nat.le_of_ble_eq_true rfl) (Nat.le_of_ble_eq_true rfl) ?_
  refine lv_if_eq (x := oc_b (oc_in x.toInt64 1 999999)) (tgt := 23) hx hb dX4_verdict_9 (by decide) (fun c9 => ?_) (fun c9 => ?_)
  · -- taken
    rw [oc_b0] at c9
    refine lv_aload_n hx hb dX4_verdict_23 rfl (lv_at hl 0 rfl) ?_
    refine lv_iconst (v := 1) hx hb dX4_verdict_24 (by decide) ?_
    refine oc_callM hx hb hml hl.1 ⟨hok, hS, hN0⟩ (oc_iV (As := [.int 1]) (rest := []) hx hb hown (hts _ q923) (hts _ q925) (hts _ qs14) (oc_Sig.of (hts _ q926) (by decide +kernel : (parseMethodDescriptor "(I)I").map (fun d => d.parameters.length) = some 1)) (va_recv hK hP (ci := 3) (q0 := 0) rfl rfl) ⟨by decide, by decide⟩ dX4_verdict_25 rfl) (oc_M.of (by decide +kernel) (hts _ q926)) (kX4_refuse G hP hD hN0 1) (fun _ z => z) dX4_verdict_25 (Nat.le_of_ble_eq_true rfl) (Nat.le_of_ble_eq_true rfl) (Nat.le_of_ble_eq_true rfl) (Nat.le_of_ble_eq_true rfl) (fun v I_ F_ L_ H locs sp hP hz1 hk1 hS => ?_)
    obtain ⟨rfl, e2, e3, e4⟩ := sp
    rw [e2, e3, e4] at hP
    clear e2 e3 e4
    have hD : va_D (oc_hA h) (oc_mW d h (upd I 0 1) F L) := oc_mD hD
    refine W.eq (g2 := F0 m 28 ls [.int 0]) rfl ?_
    exact oc_iret hx hb hr hlocks hS dX4_verdict_28 ⟨_, _, _, _, rfl, hP, rfl, rfl, ⟨rfl, Or.inl ⟨by simp [oc_vok, *], rfl, rfl, rfl⟩⟩⟩
  · -- not taken
    rw [oc_b0] at c9
    rw [Bool.not_eq_false] at c9
    refine lv_lload_n hx hb dX4_verdict_12 rfl (lv_at hl 2 rfl) ?_
    refine lv_lconst (v := 0) hx hb dX4_verdict_13 (by decide) ?_
    refine lv_ldc2 (v := 1000000000) hx hb hown (hts _ q922) dX4_verdict_14 ?_
    refine oc_callR1 hx hb hml hl.1 ⟨hok, hS, hN0⟩ (oc_iS (As := [.long y, .long 0, .long 1000000000]) (rest := []) hx hb hown (hts _ q900) (hts _ q901) (hts _ q30) (hts _ q902) ⟨by decide, by decide, (by decide +kernel : (parseMethodDescriptor "(JJJ)Z").map (fun d => d.parameters.length) = some 3)⟩ dX4_verdict_17 rfl) (oc_M.of (by decide +kernel) (hts _ q902)) (kX4_in G y 0 1000000000) dX4_verdict_17 (Nat.le_of_ble_eq_true rfl) (Nat.le_of_ble_eq_true rfl) (Nat.le_of_ble_eq_true rfl) (Nat.le_of_ble_eq_true rfl) ?_
    refine lv_if_ne (x := oc_b (oc_in y 0 1000000000)) (tgt := 29) hx hb dX4_verdict_20 (by decide) (fun c20 => ?_) (fun c20 => ?_)
    · -- taken
      rw [oc_b0] at c20
      rw [Bool.not_eq_false] at c20
      have hvok : oc_vok x y = true := by simp [oc_vok, c9, c20]
      refine lv_aload_n hx hb dX4_verdict_29 rfl (lv_at hl 0 rfl) ?_
      refine lv_iconst (v := 0) hx hb dX4_verdict_30 (by decide) ?_
      refine va_put (D := D) (ci := 3) (v := .int 0) (ty := .int) (C := RX4) (T := TX4) (N := 27) hx hb hts in_X4 tyX4 tyX4_ok nmX4 hown hK hP hD hS 0 rfl rfl 0 (by decide) (hts _ q807) (fun _ h9 => h9) rfl (by decide +kernel) rfl rfl (Nat.le_of_ble_eq_true rfl) dX4_verdict_31 (fun H locs hP hD hS => ?_)
      have hP : va_P D oc_cl (oc_mW d h (upd I 0 0) F L) H := hP
      have hD : va_D (oc_hA h) (oc_mW d h (upd I 0 0) F L) := hD
      refine lv_aload_n hx hb dX4_verdict_34 rfl (lv_at hl 0 rfl) ?_
      refine lv_iload_n hx hb dX4_verdict_35 rfl (lv_at hl 1 rfl) ?_
      refine oc_callR1 hx hb hml hl.1 ⟨hok, hS, hN0⟩ (oc_iV (As := [.int x]) (rest := []) hx hb hown (hts _ q965) (hts _ q967) (hts _ qs16) (oc_Sig.of (hts _ q968) (by decide +kernel : (parseMethodDescriptor "(I)I").map (fun d => d.parameters.length) = some 1)) (va_recv hK hP (ci := 3) (q0 := 0) rfl rfl) ⟨by decide, by decide⟩ dX4_verdict_36 rfl) (oc_M.of (by decide +kernel) (hts _ q968)) (kX4_rowOf G hP x NR rb rq h5 hNR (fun r hr9 => ⟨(hR r hr9).1, (hR r hr9).2.1⟩)) dX4_verdict_36 (Nat.le_of_ble_eq_true rfl) (Nat.le_of_ble_eq_true rfl) (Nat.le_of_ble_eq_true rfl) (Nat.le_of_ble_eq_true rfl) ?_
      refine lv_istore (lv' := [(4, .int (oc_rv (oc_ro (fun r => oc_bg (F 3) x (rb r) (rq r)) NR).1)), (0, .ref (h 0)), (1, .int x), (2, .long y)]) hx hb dX4_verdict_39 hl (by decide) rfl (fun ls hl => ?_)
      refine lv_iload hx hb dX4_verdict_41 (lv_at hl 0 rfl) ?_
      refine lv_if_ge (x := oc_rv (oc_ro (fun r => oc_bg (F 3) x (rb r) (rq r)) NR).1) (tgt := 48) hx hb dX4_verdict_43 (by decide) (fun c43 => ?_) (fun c43 => ?_)
      · -- taken
        obtain ⟨r, hro⟩ : ∃ r, (oc_ro (fun r => oc_bg (F 3) x (rb r) (rq r)) NR).1 = some r := by
          cases z : (oc_ro (fun r => oc_bg (F 3) x (rb r) (rq r)) NR).1 with
          | none => rw [z] at c43; exact absurd c43 (by decide)
          | some r => exact ⟨r, rfl⟩
        rw [hro] at hl
        have hr9 := oc_ro_lt NR hro
        refine lv_aload_n hx hb dX4_verdict_48 rfl (lv_at hl 1 rfl) ?_
        refine va_get (D := D) (ci := 3) (v := .int (I 11)) (C := RX4) (T := TX4) (N := 27) hx hb hts in_X4 hown hK hP 0 rfl rfl 11 (by decide) (hts _ q818) (fun _ h9 => h9) rfl dX4_verdict_49 ?_
        refine lv_if_eq (x := I 11) (tgt := 71) hx hb dX4_verdict_52 (by decide) (fun c52 => ?_) (fun c52 => ?_)
        · -- taken
          have hbd : oc_bd I = false := by simp only [oc_bd, decide_eq_true c52, Bool.not_true, Bool.false_and]
          refine lv_aload_n hx hb dX4_verdict_71 rfl (lv_at hl 1 rfl) ?_
          refine lv_iload hx hb dX4_verdict_72 (lv_at hl 0 rfl) ?_
          refine lv_iload_n hx hb dX4_verdict_74 rfl (lv_at hl 2 rfl) ?_
          refine lv_lload_n hx hb dX4_verdict_75 rfl (lv_at hl 3 rfl) ?_
          refine oc_callM hx hb hml hl.1 ⟨hok, hS, hN0⟩ (oc_iV (As := [.int (nI r), .int x, .long y]) (rest := []) hx hb hown (hts _ q974) (hts _ q976) (hts _ qs18) (oc_Sig.of (hts _ q977) (by decide +kernel : (parseMethodDescriptor "(IIJ)Z").map (fun d => d.parameters.length) = some 3)) (va_recv hK hP (ci := 3) (q0 := 0) rfl rfl) ⟨by decide, by decide⟩ dX4_verdict_76 rfl) (oc_M.of (by decide +kernel) (hts _ q977)) (kX4_ruled G hP hD hN0 x y r (rb r) (rq r) (re r) ze z2 N hN h12 (by omega) (hR r hr9).1 (hR r hr9).2.1 (hR r hr9).2.2.1.1 (hR r hr9).2.2.1.2.1 (hR r hr9).2.2.1.2.2.1 (hR r hr9).2.2.1.2.2.2 (hR r hr9).2.2.2 hal (by rw [show (fun q => oc_mh (upd I 0 0) F L N q (ze q) x y) = (fun q => oc_mh I F L N q (ze q) x y) from funext fun q => oc_mh_I (by rfl) (by rfl) (by rfl) (by rfl) (by rfl) (by rfl) (by rfl) (by rfl) (by rfl)]; exact hrun r hro)) (fun _ z => z) dX4_verdict_76 (Nat.le_of_ble_eq_true rfl) (Nat.le_of_ble_eq_true rfl) (Nat.le_of_ble_eq_true rfl) (Nat.le_of_ble_eq_true rfl) (fun v I_ F_ L_ H locs sp hP hz1 hk1 hS => ?_)
          obtain ⟨eL, ev, eI, eF, hal2⟩ := sp
          subst ev
          rw [eL, eI, eF] at hP
          clear eL eI eF
          have hD : va_D (oc_hA h) (oc_mW d h (upd (upd I 0 0) 22 (nI z2.2.2.2.2.1)) (va_up (va_up (va_up (va_up F 24 z2.2.1) 25 z2.2.2.1) 26 z2.2.2.2.1) 23 z2.2.2.2.2.2) L) := oc_mD hD
          refine W.eq (g2 := F0 m 79 ls [.int (oc_b (rl_or (z2.2.2.1 0) (z2.2.2.2.1 0)))]) rfl ?_
          refine lv_if_eq (x := oc_b (rl_or (z2.2.2.1 0) (z2.2.2.2.1 0))) (tgt := 86) hx hb dX4_verdict_79 (by decide) (fun c79 => ?_) (fun c79 => ?_)
          · -- taken
            rw [oc_b0] at c79
            refine lv_iconst (v := 0) hx hb dX4_verdict_86 (by decide) ?_
            exact oc_iret hx hb hr hlocks hS dX4_verdict_87 ⟨_, _, _, _, rfl, hP, rfl, rfl, ⟨rfl, Or.inr (Or.inr (Or.inr ⟨hvok, ⟨r, hro⟩, hbd, by simp [oc_b, c79], rfl, rfl, hal2⟩))⟩⟩
          · -- not taken
            rw [oc_b0] at c79
            rw [Bool.not_eq_false] at c79
            refine lv_iconst (v := 1) hx hb dX4_verdict_82 (by decide) ?_
            refine lv_goto (tgt := 87) hx hb dX4_verdict_83 (by decide) ?_
            exact oc_iret hx hb hr hlocks hS dX4_verdict_87 ⟨_, _, _, _, rfl, hP, rfl, rfl, ⟨rfl, Or.inr (Or.inr (Or.inr ⟨hvok, ⟨r, hro⟩, hbd, by simp [oc_b, c79], rfl, rfl, hal2⟩))⟩⟩
        · -- not taken
          refine lv_aload_n hx hb dX4_verdict_55 rfl (lv_at hl 1 rfl) ?_
          refine va_get (D := D) (ci := 3) (v := .int (I 11)) (C := RX4) (T := TX4) (N := 27) hx hb hts in_X4 hown hK hP 0 rfl rfl 11 (by decide) (hts _ q818) (fun _ h9 => h9) rfl dX4_verdict_56 ?_
          refine lv_aload_n hx hb dX4_verdict_59 rfl (lv_at hl 1 rfl) ?_
          refine va_get (D := D) (ci := 3) (v := .int (I 12)) (C := RX4) (T := TX4) (N := 27) hx hb hts in_X4 hown hK hP 0 rfl rfl 12 (by decide) (hts _ q819) (fun _ h9 => h9) rfl dX4_verdict_60 ?_
          refine lv_iconst (v := (-1)) hx hb dX4_verdict_63 (by decide) ?_
          refine lv_ixor hx hb dX4_verdict_64 ?_
          refine lv_iand hx hb dX4_verdict_65 ?_
          refine lv_if_ne (x := (I 11) &&& ((I 12) ^^^ (-1))) (tgt := 71) hx hb dX4_verdict_66 (by decide) (fun c66 => ?_) (fun c66 => ?_)
          · -- taken
            have hbd : oc_bd I = false := by simp only [oc_bd, decide_eq_false c66, Bool.and_false]
            refine lv_aload_n hx hb dX4_verdict_71 rfl (lv_at hl 1 rfl) ?_
            refine lv_iload hx hb dX4_verdict_72 (lv_at hl 0 rfl) ?_
            refine lv_iload_n hx hb dX4_verdict_74 rfl (lv_at hl 2 rfl) ?_
            refine lv_lload_n hx hb dX4_verdict_75 rfl (lv_at hl 3 rfl) ?_
            refine oc_callM hx hb hml hl.1 ⟨hok, hS, hN0⟩ (oc_iV (As := [.int (nI r), .int x, .long y]) (rest := []) hx hb hown (hts _ q974) (hts _ q976) (hts _ qs18) (oc_Sig.of (hts _ q977) (by decide +kernel : (parseMethodDescriptor "(IIJ)Z").map (fun d => d.parameters.length) = some 3)) (va_recv hK hP (ci := 3) (q0 := 0) rfl rfl) ⟨by decide, by decide⟩ dX4_verdict_76 rfl) (oc_M.of (by decide +kernel) (hts _ q977)) (kX4_ruled G hP hD hN0 x y r (rb r) (rq r) (re r) ze z2 N hN h12 (by omega) (hR r hr9).1 (hR r hr9).2.1 (hR r hr9).2.2.1.1 (hR r hr9).2.2.1.2.1 (hR r hr9).2.2.1.2.2.1 (hR r hr9).2.2.1.2.2.2 (hR r hr9).2.2.2 hal (by rw [show (fun q => oc_mh (upd I 0 0) F L N q (ze q) x y) = (fun q => oc_mh I F L N q (ze q) x y) from funext fun q => oc_mh_I (by rfl) (by rfl) (by rfl) (by rfl) (by rfl) (by rfl) (by rfl) (by rfl) (by rfl)]; exact hrun r hro)) (fun _ z => z) dX4_verdict_76 (Nat.le_of_ble_eq_true rfl) (Nat.le_of_ble_eq_true rfl) (Nat.le_of_ble_eq_true rfl) (Nat.le_of_ble_eq_true rfl) (fun v I_ F_ L_ H locs sp hP hz1 hk1 hS => ?_)
            obtain ⟨eL, ev, eI, eF, hal2⟩ := sp
            subst ev
            rw [eL, eI, eF] at hP
            clear eL eI eF
            have hD : va_D (oc_hA h) (oc_mW d h (upd (upd I 0 0) 22 (nI z2.2.2.2.2.1)) (va_up (va_up (va_up (va_up F 24 z2.2.1) 25 z2.2.2.1) 26 z2.2.2.2.1) 23 z2.2.2.2.2.2) L) := oc_mD hD
            refine W.eq (g2 := F0 m 79 ls [.int (oc_b (rl_or (z2.2.2.1 0) (z2.2.2.2.1 0)))]) rfl ?_
            refine lv_if_eq (x := oc_b (rl_or (z2.2.2.1 0) (z2.2.2.2.1 0))) (tgt := 86) hx hb dX4_verdict_79 (by decide) (fun c79 => ?_) (fun c79 => ?_)
            · -- taken
              rw [oc_b0] at c79
              refine lv_iconst (v := 0) hx hb dX4_verdict_86 (by decide) ?_
              exact oc_iret hx hb hr hlocks hS dX4_verdict_87 ⟨_, _, _, _, rfl, hP, rfl, rfl, ⟨rfl, Or.inr (Or.inr (Or.inr ⟨hvok, ⟨r, hro⟩, hbd, by simp [oc_b, c79], rfl, rfl, hal2⟩))⟩⟩
            · -- not taken
              rw [oc_b0] at c79
              rw [Bool.not_eq_false] at c79
              refine lv_iconst (v := 1) hx hb dX4_verdict_82 (by decide) ?_
              refine lv_goto (tgt := 87) hx hb dX4_verdict_83 (by decide) ?_
              exact oc_iret hx hb hr hlocks hS dX4_verdict_87 ⟨_, _, _, _, rfl, hP, rfl, rfl, ⟨rfl, Or.inr (Or.inr (Or.inr ⟨hvok, ⟨r, hro⟩, hbd, by simp [oc_b, c79], rfl, rfl, hal2⟩))⟩⟩
          · -- not taken
            have hbd : oc_bd I = true := by simp only [oc_bd, decide_eq_true c66, decide_eq_false c52]; rfl
            refine lv_iconst (v := 2) hx hb dX4_verdict_69 (by decide) ?_
            exact oc_iret hx hb hr hlocks hS dX4_verdict_70 ⟨_, _, _, _, rfl, hP, rfl, rfl, ⟨rfl, Or.inr (Or.inr (Or.inl ⟨hvok, ⟨r, hro⟩, hbd, rfl, rfl, rfl⟩))⟩⟩
      · -- not taken
        have hro : (oc_ro (fun r => oc_bg (F 3) x (rb r) (rq r)) NR).1 = none := by
          cases z : (oc_ro (fun r => oc_bg (F 3) x (rb r) (rq r)) NR).1 with
          | none => rfl
          | some r => rw [z] at c43; exact absurd (show (0:Int32) ≤ nI r from (oc_le (a := 0) (b := r) rfl rfl (by decide) (by have := oc_ro_lt NR z; omega)).mpr (by omega)) c43
        refine lv_iconst (v := 3) hx hb dX4_verdict_46 (by decide) ?_
        exact oc_iret hx hb hr hlocks hS dX4_verdict_47 ⟨_, _, _, _, rfl, hP, rfl, rfl, ⟨rfl, Or.inr (Or.inl ⟨hvok, hro, rfl, rfl, rfl⟩)⟩⟩
    · -- not taken
      rw [oc_b0] at c20
      refine lv_aload_n hx hb dX4_verdict_23 rfl (lv_at hl 0 rfl) ?_
      refine lv_iconst (v := 1) hx hb dX4_verdict_24 (by decide) ?_
      refine oc_callM hx hb hml hl.1 ⟨hok, hS, hN0⟩ (oc_iV (As := [.int 1]) (rest := []) hx hb hown (hts _ q923) (hts _ q925) (hts _ qs14) (oc_Sig.of (hts _ q926) (by decide +kernel : (parseMethodDescriptor "(I)I").map (fun d => d.parameters.length) = some 1)) (va_recv hK hP (ci := 3) (q0 := 0) rfl rfl) ⟨by decide, by decide⟩ dX4_verdict_25 rfl) (oc_M.of (by decide +kernel) (hts _ q926)) (kX4_refuse G hP hD hN0 1) (fun _ z => z) dX4_verdict_25 (Nat.le_of_ble_eq_true rfl) (Nat.le_of_ble_eq_true rfl) (Nat.le_of_ble_eq_true rfl) (Nat.le_of_ble_eq_true rfl) (fun v I_ F_ L_ H locs sp hP hz1 hk1 hS => ?_)
      obtain ⟨rfl, e2, e3, e4⟩ := sp
      rw [e2, e3, e4] at hP
      clear e2 e3 e4
      have hD : va_D (oc_hA h) (oc_mW d h (upd I 0 1) F L) := oc_mD hD
      refine W.eq (g2 := F0 m 28 ls [.int 0]) rfl ?_
      exact oc_iret hx hb hr hlocks hS dX4_verdict_28 ⟨_, _, _, _, rfl, hP, rfl, rfl, ⟨rfl, Or.inl ⟨by simp [oc_vok, *], rfl, rfl, rfl⟩⟩⟩
