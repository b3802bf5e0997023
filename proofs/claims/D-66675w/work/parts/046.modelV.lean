/-! ===== OriginRulesModel: ruled, verdict ===== -/
abbrev rl_S : Type := Nat × (Nat → Int32) × (Nat → Int32) × (Nat → Int32) × Nat × (Nat → Int32)
/-- is a factor asked: live x, some term held y, this one holds z -/
def rl_ask (x y z : Int32) : Bool := !decide (x = 0) && decide (y = 0) && !decide (z = 0)
def rl_or (y z : Int32) : Bool := !decide (y = 0) || !decide (z = 0)
/-- one sign of a rule, at q; hv: what a factor at a place says; b: where the row begins -/
def rl_st (f : Nat → Int32) (hv : Nat → Bool) (b q : Nat) (z : rl_S) : Option rl_S := match z with
  | (g, x, y, w, k, t) =>
    if f q = 40 then (if g < 8 then some (g + 1, upd x (g + 1) (oc_b (rl_ask (x g) (y g) (w g))), upd y (g + 1) 0, upd w (g + 1) 1, k, t) else none)
    else if f q = 41 then (if 0 < g then some (g - 1, x, y, upd w (g - 1) (if x g = 0 then w (g - 1) else oc_b (rl_or (y g) (w g))), k, t) else none)
    else if f q = 124 then some (g, x, upd y g (oc_b (rl_or (y g) (w g))), upd w g 1, k, t)
    else if rl_ask (x g) (y g) (w g) = true ∧ ¬ f q = 38 ∧ oc_dig (f q) = false then (if k < 300 then some (g, x, y, upd w g (oc_b (hv q)), k + 1, upd t k (2 * (nI q - nI b) + oc_b (hv q))) else none)
    else some (g, x, y, w, k, t)
def rl_run (f : Nat → Int32) (hv : Nat → Bool) (b : Nat) : Nat → Nat → rl_S → Option rl_S
  | 0, _, z => some z
  | n + 1, q, z => (rl_st f hv b q z).bind (rl_run f hv b n (q + 1))
theorem rl_run_s {f : Nat → Int32} {hv : Nat → Bool} {b E q : Nat} {z z2 : rl_S} (h : rl_run f hv b (E - q) q z = some z2) (hq : q < E) : ∃ z1, rl_st f hv b q z = some z1 ∧ rl_run f hv b (E - (q + 1)) (q + 1) z1 = some z2 := by
  rw [show E - q = (E - (q + 1)) + 1 by omega] at h
  unfold rl_run at h
  cases hz : rl_st f hv b q z with
  | none => rw [hz] at h; cases h
  | some z1 => rw [hz] at h; exact ⟨z1, rfl, h⟩
theorem rl_run_0 {f : Nat → Int32} {hv : Nat → Bool} {b E : Nat} {z z2 : rl_S} (h : rl_run f hv b (E - E) E z = some z2) : z = z2 := by
  rw [Nat.sub_self] at h
  exact Option.some.inj h
theorem oc_bor (b : Bool) : oc_b b = 0 ∨ oc_b b = 1 := by cases b; exact Or.inl rfl; exact Or.inr rfl
theorem oc_nar01 {x : Int32} (h : x = 0 ∨ x = 1) : vp_nar .boolean x = x := by rcases h with h | h <;> subst h <;> rfl
theorem oc_mt_I {I I2 : Nat → Int32} {F F2 : Nat → Nat → Int32} {L : Nat → Int64} (h1 : I2 15 = I 15) (h2 : F2 8 = F 8) (h3 : F2 9 = F 9) (h4 : F2 13 = F 13) {x z : Int32} {N : Nat} : oc_mt I2 F2 L x z N = oc_mt I F L x z N ∧ oc_me I2 F2 x z N = oc_me I F x z N ∧ oc_mf I2 F2 L N = oc_mf I F L N := by
  have e : ∀ y, oc_mw I2 F2 y = oc_mw I F y := by intro y; unfold oc_mw; rw [h1, h4]
  have e2 : ∀ k, oc_ms I2 F2 x z k = oc_ms I F x z k := by intro k; unfold oc_ms; rw [h3, h2, e]
  induction N with
  | zero => exact ⟨rfl, rfl, rfl⟩
  | succ k ih =>
    obtain ⟨a, b, c⟩ := ih
    refine ⟨?_, ?_, ?_⟩
    · show oc_mt I2 F2 L x z k + _ = oc_mt I F L x z k + _; rw [a, e2]
    · show (oc_me I2 F2 x z k || _) = (oc_me I F x z k || _); rw [b, e2]
    · show oc_mf I2 F2 L k + _ = oc_mf I F L k + _; rw [c, h3, e]
theorem oc_mh_I {I I2 : Nat → Int32} {F F2 : Nat → Nat → Int32} {L : Nat → Int64} (h1 : I2 15 = I 15) (h2 : F2 8 = F 8) (h3 : F2 9 = F 9) (h4 : F2 13 = F 13) (h5 : F2 3 = F 3) (h6 : I2 7 = I 7) (h7 : I2 11 = I 11) (h8 : I2 16 = I 16) (h9 : I2 17 = I 17) {N pl ze : Nat} {x : Int32} {y : Int64} : oc_mh I2 F2 L N pl ze x y = oc_mh I F L N pl ze x y := by
  have e : ∀ z, oc_mx I2 F2 L N x y z = oc_mx I F L N x y z := by intro z; unfold oc_mx; obtain ⟨a, b, -⟩ := oc_mt_I (L := L) h1 h2 h3 h4 (x := x) (z := z) (N := N); rw [a, b, h8, h9]
  have e2 := (oc_mt_I (L := L) h1 h2 h3 h4 (x := x) (z := x) (N := N)).2.2
  unfold oc_mh
  rw [h5, e, e, e, e2, h6, h7]
/-- digits behind a place end -/
def oc_Ze (f : Nat → Int32) (E : Nat) (ze : Nat → Nat) : Prop := ∀ q, q < E → q < ze q ∧ ze q ≤ E ∧ (∀ i, q < i → i < ze q → oc_dig (f i) = true) ∧ oc_dig (f (ze q)) = false
def rl_0 (F : Nat → Nat → Int32) : rl_S := (0, upd (F 24) 0 1, upd (F 25) 0 0, upd (F 26) 0 1, 0, F 23)
def sp_ruled (I : Nat → Int32) (F : Nat → Nat → Int32) (L : Nat → Int64) (z2 : rl_S) : oc_Φ := fun v I' F' L' => L' = L ∧ v = some (.int (oc_b (rl_or (z2.2.2.1 0) (z2.2.2.2.1 0)))) ∧ I' = upd I 22 (nI z2.2.2.2.2.1) ∧ F' = va_up (va_up (va_up (va_up F 24 z2.2.1) 25 z2.2.2.1) 26 z2.2.2.2.1) 23 z2.2.2.2.2.2 ∧ (∀ i, i < 9 → z2.2.2.2.1 i = 0 ∨ z2.2.2.2.1 i = 1)
set_option maxHeartbeats 4000000 in
set_option maxRecDepth 100000 in
theorem kX4_ruled {l : Launch} {s0 : State} {b0 : Addr} {D : va_G} {d : Nat → ClassId} (G : oc_G l s0 b0 D d) {h : Nat → Nat} {I : Nat → Int32} {F : Nat → Nat → Int32} {L : Nat → Int64} {H : Heap} (hP : va_P D oc_cl (oc_mW d h I F L) H) (hD : va_D (oc_hA h) (oc_mW d h I F L)) (hN0 : ∀ q, oc_hA h q → s0.heap.size ≤ q) (a : Int32) (y0 : Int64) (r b qd E : Nat) (ze : Nat → Nat) (z2 : rl_S) (N : Nat) (hN : I 7 = nI N) (h12 : N ≤ 12) (hr2 : r < 21) (hbb : F 4 r = nI b) (hw : oc_Rw (F 3) b qd) (hE : b + qd < E) (h300 : E < 300) (hE1 : ∀ i, b + qd < i → i < E → ¬ F 3 i = 59) (hE2 : F 3 E = 59) (hze : oc_Ze (F 3) E ze) (hal : ∀ i, i < 9 → F 26 i = 0 ∨ F 26 i = 1) (hrun0 : rl_run (F 3) (fun q => oc_mh I F L N q (ze q) a y0) b (E - (b + qd + 1)) (b + qd + 1) (rl_0 F) = some z2) : oc_C l s0 yX4_ruled (oc_rm 3 56 0 0) [.ref (h 0), .int (nI r), .int a, .long y0] H (oc_hA h) (oc_Pm D d h (sp_ruled I F L z2)) := by
  refine oc_start G (cc := cX4_ruled) (L := 10) (ret := (Option.some Jvm.ClassFile.FieldType.boolean)) q977 (Nat.le_of_ble_eq_true rfl) ?_
  intro p e s m below meth c ls hx hok hb hml hr hlocks htab hown hts hK hmn hh hl
  subst hh
  have hl : lv_has ls 10 [(0, .ref (h 0)), (1, .int (nI r)), (2, .int a), (3, .long y0)] := hl
  have hS : va_S (oc_hA h) s.heap s.heap [] := va_S.rf
  generalize hH0 : s.heap = H at hP ⊢
  have hS : va_S (oc_hA h) s.heap H [] := by rw [← hH0]; exact va_S.rf
  clear hH0
  generalize hlo0 : ([] : List Loc) = locs at hS ⊢
  obtain ⟨hq6, hbq, hw1, hw2⟩ := hw
  refine lv_iconst (v := 0) hx hb dX4_ruled_0 (by decide) ?_
  refine lv_istore (lv' := [(5, .int 0), (0, .ref (h 0)), (1, .int (nI r)), (2, .int a), (3, .long y0)]) hx hb dX4_ruled_1 hl (by decide) rfl (fun ls hl => ?_)
  refine lv_aload_n hx hb dX4_ruled_3 rfl (lv_at hl 1 rfl) ?_
  refine va_get (D := D) (ci := 3) (v := .ref (h 24)) (C := RX4) (T := TX4) (N := 27) hx hb hts in_X4 hown hK hP 0 rfl rfl 24 (by decide) (hts _ q831) (fun _ h9 => h9) rfl dX4_ruled_4 ?_
  refine lv_iconst (v := 0) hx hb dX4_ruled_7 (by decide) ?_
  refine lv_iconst (v := 1) hx hb dX4_ruled_8 (by decide) ?_
  refine oc_zast hx hb hK hP hD hS 13 1 rfl rfl 0 rfl (by decide) (by decide) (v := 1) rfl dX4_ruled_9 (fun H locs hP hD hS => ?_)
  have hP : va_P D oc_cl (oc_mW d h I (va_up F 24 (upd (F 24) 0 1)) L) H := hP
  have hD : va_D (oc_hA h) (oc_mW d h I (va_up F 24 (upd (F 24) 0 1)) L) := hD
  refine lv_aload_n hx hb dX4_ruled_10 rfl (lv_at hl 1 rfl) ?_
  refine va_get (D := D) (ci := 3) (v := .ref (h 25)) (C := RX4) (T := TX4) (N := 27) hx hb hts in_X4 hown hK hP 0 rfl rfl 25 (by decide) (hts _ q832) (fun _ h9 => h9) rfl dX4_ruled_11 ?_
  refine lv_iconst (v := 0) hx hb dX4_ruled_14 (by decide) ?_
  refine lv_iconst (v := 0) hx hb dX4_ruled_15 (by decide) ?_
  refine oc_zast hx hb hK hP hD hS 14 1 rfl rfl 0 rfl (by decide) (by decide) (v := 0) rfl dX4_ruled_16 (fun H locs hP hD hS => ?_)
  have hP : va_P D oc_cl (oc_mW d h I (va_up (va_up F 24 (upd (F 24) 0 1)) 25 (upd (F 25) 0 0)) L) H := hP
  have hD : va_D (oc_hA h) (oc_mW d h I (va_up (va_up F 24 (upd (F 24) 0 1)) 25 (upd (F 25) 0 0)) L) := hD
  refine lv_aload_n hx hb dX4_ruled_17 rfl (lv_at hl 1 rfl) ?_
  refine va_get (D := D) (ci := 3) (v := .ref (h 26)) (C := RX4) (T := TX4) (N := 27) hx hb hts in_X4 hown hK hP 0 rfl rfl 26 (by decide) (hts _ q833) (fun _ h9 => h9) rfl dX4_ruled_18 ?_
  refine lv_iconst (v := 0) hx hb dX4_ruled_21 (by decide) ?_
  refine lv_iconst (v := 1) hx hb dX4_ruled_22 (by decide) ?_
  refine oc_zast hx hb hK hP hD hS 15 1 rfl rfl 0 rfl (by decide) (by decide) (v := 1) rfl dX4_ruled_23 (fun H locs hP hD hS => ?_)
  have hP : va_P D oc_cl (oc_mW d h I (va_up (va_up (va_up F 24 (upd (F 24) 0 1)) 25 (upd (F 25) 0 0)) 26 (upd (F 26) 0 1)) L) H := hP
  have hD : va_D (oc_hA h) (oc_mW d h I (va_up (va_up (va_up F 24 (upd (F 24) 0 1)) 25 (upd (F 25) 0 0)) 26 (upd (F 26) 0 1)) L) := hD
  refine lv_aload_n hx hb dX4_ruled_24 rfl (lv_at hl 1 rfl) ?_
  refine lv_iconst (v := 0) hx hb dX4_ruled_25 (by decide) ?_
  refine va_put (D := D) (ci := 3) (v := .int 0) (ty := .int) (C := RX4) (T := TX4) (N := 27) hx hb hts in_X4 tyX4 tyX4_ok nmX4 hown hK hP hD hS 0 rfl rfl 22 (by decide) (hts _ q829) (fun _ h9 => h9) rfl (by decide +kernel) rfl rfl (Nat.le_of_ble_eq_true rfl) dX4_ruled_26 (fun H locs hP hD hS => ?_)
  have hP : va_P D oc_cl (oc_mW d h (upd I 22 0) (va_up (va_up (va_up F 24 (upd (F 24) 0 1)) 25 (upd (F 25) 0 0)) 26 (upd (F 26) 0 1)) L) H := hP
  have hD : va_D (oc_hA h) (oc_mW d h (upd I 22 0) (va_up (va_up (va_up F 24 (upd (F 24) 0 1)) 25 (upd (F 25) 0 0)) 26 (upd (F 26) 0 1)) L) := hD
  refine lv_aload_n hx hb dX4_ruled_29 rfl (lv_at hl 1 rfl) ?_
  refine va_get (D := D) (ci := 3) (v := .ref (h 4)) (C := RX4) (T := TX4) (N := 27) hx hb hts in_X4 hown hK hP 0 rfl rfl 4 (by decide) (hts _ q811) (fun _ h9 => h9) rfl dX4_ruled_30 ?_
  refine lv_iload_n hx hb dX4_ruled_33 rfl (lv_at hl 2 rfl) ?_
  refine oc_iald hx hb hK hP 3 0 rfl rfl r rfl (by omega) (by decide) dX4_ruled_34 ?_
  refine oc_topi (x := (F 4) r) (y := nI (b + 0)) hbb ?_
  refine lv_istore (lv' := [(6, .int (nI (b + 0))), (5, .int 0), (0, .ref (h 0)), (1, .int (nI r)), (2, .int a), (3, .long y0)]) hx hb dX4_ruled_35 hl (by decide) rfl (fun ls hl => ?_)
  have lp37 : ∀ (n : Nat) (j : Nat), (j ≤ qd) → (qd + 1 ≤ j + n) → ∀ (H : Heap) (locs : List Loc), va_P D oc_cl (oc_mW d h (upd I 22 0) (va_up (va_up (va_up F 24 (upd (F 24) 0 1)) 25 (upd (F 25) 0 0)) 26 (upd (F 26) 0 1)) L) H → va_D (oc_hA h) (oc_mW d h (upd I 22 0) (va_up (va_up (va_up F 24 (upd (F 24) 0 1)) 25 (upd (F 25) 0 0)) 26 (upd (F 26) 0 1)) L) → va_S (oc_hA h) s.heap H locs → ∀ (ls : Array Slot), lv_has ls 10 [(6, .int (nI (b + j))), (5, .int 0), (0, .ref (h 0)), (1, .int (nI r)), (2, .int a), (3, .long y0)] → W p l e (oc_rm 3 56 0 0) s m ([.ref (h 0), .int (nI r), .int a, .long y0] : List Value).toArray below meth c H locs 0 0 (oc_Q (oc_hA h) below s (oc_Pm D d h (sp_ruled I F L z2))) (F0 m 37 ls []) := by
    intro n
    induction n with
    | zero => intro j hj hn H locs hP hD hS ls hl; exact absurd hn (by omega)
    | succ n ih37 =>
      intro j hj hn H locs hP hD hS ls hl
      refine lv_aload_n hx hb dX4_ruled_37 rfl (lv_at hl 2 rfl) ?_
      refine va_get (D := D) (ci := 3) (v := .ref (h 3)) (C := RX4) (T := TX4) (N := 27) hx hb hts in_X4 hown hK hP 0 rfl rfl 3 (by decide) (hts _ q810) (fun _ h9 => h9) rfl dX4_ruled_38 ?_
      refine lv_iload hx hb dX4_ruled_41 (lv_at hl 0 rfl) ?_
      refine oc_iald hx hb hK hP 2 0 rfl rfl (b + j) rfl (by omega) (by decide) dX4_ruled_43 ?_
      refine lv_bipush (v := 58) hx hb dX4_ruled_44 (by decide) ?_
      refine lv_icmp_eq (x := (F 3) (b + j)) (y := 58) (tgt := 55) hx hb dX4_ruled_46 (by decide) (fun c46 => ?_) (fun c46 => ?_)
      · -- taken
        have hjq : qd = j := by
          rcases Nat.lt_or_ge j qd with z | z
          · exact absurd c46 (hw1 j z)
          · omega
        subst hjq
        refine lv_iload hx hb dX4_ruled_55 (lv_at hl 0 rfl) ?_
        refine lv_iconst (v := 1) hx hb dX4_ruled_57 (by decide) ?_
        refine lv_iadd hx hb dX4_ruled_58 ?_
        refine oc_topi (x := (nI (b + qd)) + 1) (y := nI (b + qd + 1)) (nI_1 _) ?_
        refine lv_istore (lv' := [(7, .int (nI (b + qd + 1))), (6, .int (nI (b + qd))), (5, .int 0), (0, .ref (h 0)), (1, .int (nI r)), (2, .int a), (3, .long y0)]) hx hb dX4_ruled_59 hl (by decide) rfl (fun ls hl => ?_)
        have lp61 : ∀ (n : Nat) (q : Nat) (g : Nat) (x : Nat → Int32) (y : Nat → Int32) (w : Nat → Int32) (k : Nat) (t : Nat → Int32), (b + qd < q ∧ q ≤ E) → (E + 1 ≤ q + n) → (rl_run (F 3) (fun q => oc_mh I F L N q (ze q) a y0) b (E - q) q (g, x, y, w, k, t) = some z2) → (g ≤ 8) → (k ≤ 300) → (∀ i, i < 9 → w i = 0 ∨ w i = 1) → ∀ (H : Heap) (locs : List Loc), va_P D oc_cl (oc_mW d h (upd I 22 (nI k)) (va_up (va_up (va_up (va_up F 24 x) 25 y) 26 w) 23 t) L) H → va_D (oc_hA h) (oc_mW d h (upd I 22 (nI k)) (va_up (va_up (va_up (va_up F 24 x) 25 y) 26 w) 23 t) L) → va_S (oc_hA h) s.heap H locs → ∀ (ls : Array Slot), lv_has ls 10 [(7, .int (nI q)), (5, .int (nI g)), (0, .ref (h 0)), (1, .int (nI r)), (2, .int a), (3, .long y0)] → W p l e (oc_rm 3 56 0 0) s m ([.ref (h 0), .int (nI r), .int a, .long y0] : List Value).toArray below meth c H locs 0 0 (oc_Q (oc_hA h) below s (oc_Pm D d h (sp_ruled I F L z2))) (F0 m 61 ls []) := by
          intro n
          induction n with
          | zero => intro q g x y w k t hq hn2 hrun hg hk hB H locs hP hD hS ls hl; exact absurd hn2 (by omega)
          | succ n ih61 =>
            intro q g x y w k t hq hn2 hrun hg hk hB H locs hP hD hS ls hl
            refine lv_aload_n hx hb dX4_ruled_61 rfl (lv_at hl 2 rfl) ?_
            refine va_get (D := D) (ci := 3) (v := .ref (h 3)) (C := RX4) (T := TX4) (N := 27) hx hb hts in_X4 hown hK hP 0 rfl rfl 3 (by decide) (hts _ q810) (fun _ h9 => h9) rfl dX4_ruled_62 ?_
            refine lv_iload hx hb dX4_ruled_65 (lv_at hl 0 rfl) ?_
            refine oc_iald hx hb hK hP 2 0 rfl rfl q rfl (by omega) (by decide) dX4_ruled_67 ?_
            refine lv_bipush (v := 59) hx hb dX4_ruled_68 (by decide) ?_
            refine lv_icmp_eq (x := (F 3) q) (y := 59) (tgt := 365) hx hb dX4_ruled_70 (by decide) (fun c70 => ?_) (fun c70 => ?_)
            · -- taken
              have hqE : E = q := by
                rcases Nat.lt_or_ge q E with z | z
                · exact absurd c70 (hE1 q (by omega) z)
                · omega
              subst hqE
              have hz2 := rl_run_0 hrun
              subst hz2
              refine oc_cut (g2 := F0 m 388 ls [.int (oc_b (rl_or (y 0) (w 0)))]) ?_ (fun K388 => ?_)
              · -- behind 388
                exact oc_zret hx hb hr hlocks hS dX4_ruled_388 (oc_bn _) ⟨_, _, _, _, rfl, hP, rfl, rfl, ⟨rfl, rfl, rfl, rfl, hB⟩⟩
              · -- up to 388
                refine lv_aload_n hx hb dX4_ruled_365 rfl (lv_at hl 2 rfl) ?_
                refine va_get (D := D) (ci := 3) (v := .ref (h 25)) (C := RX4) (T := TX4) (N := 27) hx hb hts in_X4 hown hK hP 0 rfl rfl 25 (by decide) (hts _ q832) (fun _ h9 => h9) rfl dX4_ruled_366 ?_
                refine lv_iconst (v := 0) hx hb dX4_ruled_369 (by decide) ?_
                refine oc_zald hx hb hK hP 14 1 rfl rfl 0 rfl (by decide) (by decide) dX4_ruled_370 ?_
                refine lv_if_ne (x := y 0) (tgt := 383) hx hb dX4_ruled_371 (by decide) (fun c371 => ?_) (fun c371 => ?_)
                · -- taken
                  refine lv_iconst (v := 1) hx hb dX4_ruled_383 (by decide) ?_
                  refine lv_goto (tgt := 388) hx hb dX4_ruled_384 (by decide) ?_
                  exact oc_topi (x := 1) (by simp [rl_or, oc_b, *]) K388
                · -- not taken
                  refine lv_aload_n hx hb dX4_ruled_374 rfl (lv_at hl 2 rfl) ?_
                  refine va_get (D := D) (ci := 3) (v := .ref (h 26)) (C := RX4) (T := TX4) (N := 27) hx hb hts in_X4 hown hK hP 0 rfl rfl 26 (by decide) (hts _ q833) (fun _ h9 => h9) rfl dX4_ruled_375 ?_
                  refine lv_iconst (v := 0) hx hb dX4_ruled_378 (by decide) ?_
                  refine oc_zald hx hb hK hP 15 1 rfl rfl 0 rfl (by decide) (by decide) dX4_ruled_379 ?_
                  refine lv_if_eq (x := w 0) (tgt := 387) hx hb dX4_ruled_380 (by decide) (fun c380 => ?_) (fun c380 => ?_)
                  · -- taken
                    refine lv_iconst (v := 0) hx hb dX4_ruled_387 (by decide) ?_
                    exact oc_topi (x := 0) (by simp [rl_or, oc_b, *]) K388
                  · -- not taken
                    refine lv_iconst (v := 1) hx hb dX4_ruled_383 (by decide) ?_
                    refine lv_goto (tgt := 388) hx hb dX4_ruled_384 (by decide) ?_
                    exact oc_topi (x := 1) (by simp [rl_or, oc_b, *]) K388
            · -- not taken
              have hqE : q < E := by
                rcases Nat.lt_or_ge q E with z | z
                · exact z
                · exact absurd (by rw [show q = E by omega]; exact hE2) c70
              obtain ⟨z1, hs, hrun2⟩ := rl_run_s hrun hqE
              refine lv_aload_n hx hb dX4_ruled_73 rfl (lv_at hl 2 rfl) ?_
              refine va_get (D := D) (ci := 3) (v := .ref (h 3)) (C := RX4) (T := TX4) (N := 27) hx hb hts in_X4 hown hK hP 0 rfl rfl 3 (by decide) (hts _ q810) (fun _ h9 => h9) rfl dX4_ruled_74 ?_
              refine lv_iload hx hb dX4_ruled_77 (lv_at hl 0 rfl) ?_
              refine oc_iald hx hb hK hP 2 0 rfl rfl q rfl (by omega) (by decide) dX4_ruled_79 ?_
              refine lv_istore (lv' := [(8, .int ((F 3) q)), (7, .int (nI q)), (5, .int (nI g)), (0, .ref (h 0)), (1, .int (nI r)), (2, .int a), (3, .long y0)]) hx hb dX4_ruled_80 hl (by decide) rfl (fun ls hl => ?_)
              refine oc_cut (g2 := F0 m 117 ls [.int (oc_b (rl_ask (x g) (y g) (w g)))]) ?_ (fun K117 => ?_)
              · -- behind 117
                refine lv_istore (lv' := [(9, .int (oc_b (rl_ask (x g) (y g) (w g)))), (8, .int ((F 3) q)), (7, .int (nI q)), (5, .int (nI g)), (0, .ref (h 0)), (1, .int (nI r)), (2, .int a), (3, .long y0)]) hx hb dX4_ruled_117 hl (by decide) rfl (fun ls hl => ?_)
                refine lv_iload hx hb dX4_ruled_119 (lv_at hl 1 rfl) ?_
                refine lv_bipush (v := 40) hx hb dX4_ruled_121 (by decide) ?_
                refine lv_icmp_ne (x := (F 3) q) (y := 40) (tgt := 157) hx hb dX4_ruled_123 (by decide) (fun c123 => ?_) (fun c123 => ?_)
                · -- taken
                  refine lv_iload hx hb dX4_ruled_157 (lv_at hl 1 rfl) ?_
                  refine lv_bipush (v := 41) hx hb dX4_ruled_159 (by decide) ?_
                  refine lv_icmp_ne (x := (F 3) q) (y := 41) (tgt := 228) hx hb dX4_ruled_161 (by decide) (fun c161 => ?_) (fun c161 => ?_)
                  · -- taken
                    refine lv_iload hx hb dX4_ruled_228 (lv_at hl 1 rfl) ?_
                    refine lv_bipush (v := 124) hx hb dX4_ruled_230 (by decide) ?_
                    refine lv_icmp_ne (x := (F 3) q) (y := 124) (tgt := 278) hx hb dX4_ruled_232 (by decide) (fun c232 => ?_) (fun c232 => ?_)
                    · -- taken
                      refine lv_iload hx hb dX4_ruled_278 (lv_at hl 0 rfl) ?_
                      refine lv_if_eq (x := oc_b (rl_ask (x g) (y g) (w g))) (tgt := 359) hx hb dX4_ruled_280 (by decide) (fun c280 => ?_) (fun c280 => ?_)
                      · -- taken
                        rw [oc_b0] at c280
                        dsimp only [rl_st] at hs
                        rw [if_neg c123, if_neg c161, if_neg c232, if_neg (by rintro ⟨z1, z2, z3⟩; rw [c280] at z1; cases z1)] at hs
                        cases hs
                        refine lv_iinc (v := nI (q + 1)) (lv' := [(7, .int (nI (q + 1))), (9, .int (oc_b (rl_ask (x g) (y g) (w g)))), (8, .int ((F 3) q)), (5, .int (nI g)), (0, .ref (h 0)), (1, .int (nI r)), (2, .int a), (3, .long y0)]) hx hb dX4_ruled_359 hl (k := 2) rfl (nI_1 q) (by decide) rfl (fun ls hl => ?_)
                        refine lv_goto (tgt := 61) hx hb dX4_ruled_362 (by decide) ?_
                        exact ih61 (q + 1) g x y w k t (by omega) (by omega) hrun2 (by omega) (by omega) hB H locs hP hD hS ls (lv_sub hl [0, 3, 4, 5, 6, 7] rfl)
                      · -- not taken
                        rw [oc_b0] at c280
                        rw [Bool.not_eq_false] at c280
                        refine lv_iload hx hb dX4_ruled_283 (lv_at hl 1 rfl) ?_
                        refine lv_bipush (v := 38) hx hb dX4_ruled_285 (by decide) ?_
                        refine lv_icmp_eq (x := (F 3) q) (y := 38) (tgt := 359) hx hb dX4_ruled_287 (by decide) (fun c287 => ?_) (fun c287 => ?_)
                        · -- taken
                          dsimp only [rl_st] at hs
                          rw [if_neg c123, if_neg c161, if_neg c232, if_neg (by rintro ⟨z1, z2, z3⟩; exact z2 c287)] at hs
                          cases hs
                          refine lv_iinc (v := nI (q + 1)) (lv' := [(7, .int (nI (q + 1))), (9, .int (oc_b (rl_ask (x g) (y g) (w g)))), (8, .int ((F 3) q)), (5, .int (nI g)), (0, .ref (h 0)), (1, .int (nI r)), (2, .int a), (3, .long y0)]) hx hb dX4_ruled_359 hl (k := 2) rfl (nI_1 q) (by decide) rfl (fun ls hl => ?_)
                          refine lv_goto (tgt := 61) hx hb dX4_ruled_362 (by decide) ?_
                          exact ih61 (q + 1) g x y w k t (by omega) (by omega) hrun2 (by omega) (by omega) hB H locs hP hD hS ls (lv_sub hl [0, 3, 4, 5, 6, 7] rfl)
                        · -- not taken
                          refine lv_iload hx hb dX4_ruled_290 (lv_at hl 1 rfl) ?_
                          refine oc_callR1 hx hb hml hl.1 ⟨hok, hS, hN0⟩ (oc_iS (As := [.int ((F 3) q)]) (rest := []) hx hb hown (hts _ q907) (hts _ q908) (hts _ q30) (hts _ q909) ⟨by decide, by decide, (by decide +kernel : (parseMethodDescriptor "(I)Z").map (fun d => d.parameters.length) = some 1)⟩ dX4_ruled_292 rfl) (oc_M.of (by decide +kernel) (hts _ q909)) (kX4_isDigit G ((F 3) q)) dX4_ruled_292 (Nat.le_of_ble_eq_true rfl) (Nat.le_of_ble_eq_true rfl) (Nat.le_of_ble_eq_true rfl) (Nat.le_of_ble_eq_true rfl) ?_
                          refine lv_if_ne (x := oc_b (oc_dig ((F 3) q))) (tgt := 359) hx hb dX4_ruled_295 (by decide) (fun c295 => ?_) (fun c295 => ?_)
                          · -- taken
                            rw [oc_b0] at c295
                            rw [Bool.not_eq_false] at c295
                            dsimp only [rl_st] at hs
                            rw [if_neg c123, if_neg c161, if_neg c232, if_neg (by rintro ⟨z1, z2, z3⟩; rw [c295] at z3; cases z3)] at hs
                            cases hs
                            refine lv_iinc (v := nI (q + 1)) (lv' := [(7, .int (nI (q + 1))), (9, .int (oc_b (rl_ask (x g) (y g) (w g)))), (8, .int ((F 3) q)), (5, .int (nI g)), (0, .ref (h 0)), (1, .int (nI r)), (2, .int a), (3, .long y0)]) hx hb dX4_ruled_359 hl (k := 2) rfl (nI_1 q) (by decide) rfl (fun ls hl => ?_)
                            refine lv_goto (tgt := 61) hx hb dX4_ruled_362 (by decide) ?_
                            exact ih61 (q + 1) g x y w k t (by omega) (by omega) hrun2 (by omega) (by omega) hB H locs hP hD hS ls (lv_sub hl [0, 3, 4, 5, 6, 7] rfl)
                          · -- not taken
                            rw [oc_b0] at c295
                            dsimp only [rl_st] at hs
                            rw [if_neg c123, if_neg c161, if_neg c232, if_pos ⟨c280, c287, c295⟩] at hs
                            by_cases hk3 : k < 300
                            rotate_left
                            · rw [if_neg hk3] at hs; cases hs
                            rw [if_pos hk3] at hs
                            cases hs
                            refine lv_aload_n hx hb dX4_ruled_298 rfl (lv_at hl 4 rfl) ?_
                            refine va_get (D := D) (ci := 3) (v := .ref (h 26)) (C := RX4) (T := TX4) (N := 27) hx hb hts in_X4 hown hK hP 0 rfl rfl 26 (by decide) (hts _ q833) (fun _ h9 => h9) rfl dX4_ruled_299 ?_
                            refine lv_iload hx hb dX4_ruled_302 (lv_at hl 3 rfl) ?_
                            refine lv_aload_n hx hb dX4_ruled_304 rfl (lv_at hl 4 rfl) ?_
                            refine lv_iload hx hb dX4_ruled_305 (lv_at hl 2 rfl) ?_
                            refine lv_iload_n hx hb dX4_ruled_307 rfl (lv_at hl 6 rfl) ?_
                            refine lv_lload_n hx hb dX4_ruled_308 rfl (lv_at hl 7 rfl) ?_
                            refine oc_callR1 hx hb hml hl.1 ⟨hok, hS, hN0⟩ (oc_iV (As := [.int (nI q), .int a, .long y0]) (rest := [.int (nI g), .ref (h 26)]) hx hb hown (hts _ q978) (hts _ q980) (hts _ qs19) (oc_Sig.of (hts _ q981) (by decide +kernel : (parseMethodDescriptor "(IIJ)Z").map (fun d => d.parameters.length) = some 3)) (va_recv hK hP (ci := 3) (q0 := 0) rfl rfl) ⟨by decide, by decide⟩ dX4_ruled_309 rfl) (oc_M.of (by decide +kernel) (hts _ q981)) (kX4_holds G hP a y0 N hN h12 q (ze q) (hze q hqE).1 (by have := (hze q hqE).2.1; omega) (hze q hqE).2.2.1 (hze q hqE).2.2.2) dX4_ruled_309 (Nat.le_of_ble_eq_true rfl) (Nat.le_of_ble_eq_true rfl) (Nat.le_of_ble_eq_true rfl) (Nat.le_of_ble_eq_true rfl) ?_
                            refine oc_topi (x := oc_b (oc_mh (upd I 22 (nI k)) (va_up (va_up (va_up (va_up F 24 x) 25 y) 26 w) 23 t) L N q (ze q) a y0)) (y := oc_b (oc_mh I F L N q (ze q) a y0)) (congrArg oc_b (oc_mh_I (by rfl) (by rfl) (by rfl) (by rfl) (by rfl) (by rfl) (by rfl) (by rfl) (by rfl))) ?_
                            refine oc_zast hx hb hK hP hD hS 15 1 rfl rfl g rfl (by omega) (by decide) (v := oc_b (oc_mh I F L N q (ze q) a y0)) (oc_bnar _) dX4_ruled_312 (fun H locs hP hD hS => ?_)
                            have hP : va_P D oc_cl (oc_mW d h (upd I 22 (nI k)) (va_up (va_up (va_up (va_up F 24 x) 25 y) 26 (upd w g (oc_b (oc_mh I F L N q (ze q) a y0)))) 23 t) L) H := hP
                            have hD : va_D (oc_hA h) (oc_mW d h (upd I 22 (nI k)) (va_up (va_up (va_up (va_up F 24 x) 25 y) 26 (upd w g (oc_b (oc_mh I F L N q (ze q) a y0)))) 23 t) L) := hD
                            refine lv_aload_n hx hb dX4_ruled_313 rfl (lv_at hl 4 rfl) ?_
                            refine va_get (D := D) (ci := 3) (v := .ref (h 23)) (C := RX4) (T := TX4) (N := 27) hx hb hts in_X4 hown hK hP 0 rfl rfl 23 (by decide) (hts _ q830) (fun _ h9 => h9) rfl dX4_ruled_314 ?_
                            refine lv_aload_n hx hb dX4_ruled_317 rfl (lv_at hl 4 rfl) ?_
                            refine va_get (D := D) (ci := 3) (v := .int (nI k)) (C := RX4) (T := TX4) (N := 27) hx hb hts in_X4 hown hK hP 0 rfl rfl 22 (by decide) (hts _ q829) (fun _ h9 => h9) rfl dX4_ruled_318 ?_
                            refine lv_iconst (v := 2) hx hb dX4_ruled_321 (by decide) ?_
                            refine lv_iload hx hb dX4_ruled_322 (lv_at hl 2 rfl) ?_
                            refine lv_aload_n hx hb dX4_ruled_324 rfl (lv_at hl 4 rfl) ?_
                            refine va_get (D := D) (ci := 3) (v := .ref (h 4)) (C := RX4) (T := TX4) (N := 27) hx hb hts in_X4 hown hK hP 0 rfl rfl 4 (by decide) (hts _ q811) (fun _ h9 => h9) rfl dX4_ruled_325 ?_
                            refine lv_iload_n hx hb dX4_ruled_328 rfl (lv_at hl 5 rfl) ?_
                            refine oc_iald hx hb hK hP 3 0 rfl rfl r rfl (by omega) (by decide) dX4_ruled_329 ?_
                            refine oc_topi (x := (F 4) r) (y := nI b) hbb ?_
                            refine lv_isub hx hb dX4_ruled_330 ?_
                            refine lv_imul hx hb dX4_ruled_331 ?_
                            refine oc_cut (g2 := F0 m 347 ls [.int (oc_b (oc_mh I F L N q (ze q) a y0)), .int (2 * ((nI q) - (nI b))), .int (nI k), .ref (h 23)]) ?_ (fun K347 => ?_)
                            · -- behind 347
                              refine lv_iadd hx hb dX4_ruled_347 ?_
                              refine oc_iast hx hb hK hP hD hS 12 0 rfl rfl k rfl (by omega) (by decide) dX4_ruled_348 (fun H locs hP hD hS => ?_)
                              have hP : va_P D oc_cl (oc_mW d h (upd I 22 (nI k)) (va_up (va_up (va_up (va_up F 24 x) 25 y) 26 (upd w g (oc_b (oc_mh I F L N q (ze q) a y0)))) 23 (upd t k ((2 * ((nI q) - (nI b))) + (oc_b (oc_mh I F L N q (ze q) a y0))))) L) H := hP
                              have hD : va_D (oc_hA h) (oc_mW d h (upd I 22 (nI k)) (va_up (va_up (va_up (va_up F 24 x) 25 y) 26 (upd w g (oc_b (oc_mh I F L N q (ze q) a y0)))) 23 (upd t k ((2 * ((nI q) - (nI b))) + (oc_b (oc_mh I F L N q (ze q) a y0))))) L) := hD
                              refine lv_aload_n hx hb dX4_ruled_349 rfl (lv_at hl 4 rfl) ?_
                              refine lv_dup hx hb dX4_ruled_350 rfl ?_
                              refine va_get (D := D) (ci := 3) (v := .int (nI k)) (C := RX4) (T := TX4) (N := 27) hx hb hts in_X4 hown hK hP 0 rfl rfl 22 (by decide) (hts _ q829) (fun _ h9 => h9) rfl dX4_ruled_351 ?_
                              refine lv_iconst (v := 1) hx hb dX4_ruled_354 (by decide) ?_
                              refine lv_iadd hx hb dX4_ruled_355 ?_
                              refine oc_topi (x := (nI k) + 1) (y := nI (k + 1)) (nI_1 k) ?_
                              refine va_put (D := D) (ci := 3) (v := .int (nI (k + 1))) (ty := .int) (C := RX4) (T := TX4) (N := 27) hx hb hts in_X4 tyX4 tyX4_ok nmX4 hown hK hP hD hS 0 rfl rfl 22 (by decide) (hts _ q829) (fun _ h9 => h9) rfl (by decide +kernel) rfl rfl (Nat.le_of_ble_eq_true rfl) dX4_ruled_356 (fun H locs hP hD hS => ?_)
                              have hP : va_P D oc_cl (oc_mW d h (upd I 22 (nI (k + 1))) (va_up (va_up (va_up (va_up F 24 x) 25 y) 26 (upd w g (oc_b (oc_mh I F L N q (ze q) a y0)))) 23 (upd t k ((2 * ((nI q) - (nI b))) + (oc_b (oc_mh I F L N q (ze q) a y0))))) L) H := hP
                              have hD : va_D (oc_hA h) (oc_mW d h (upd I 22 (nI (k + 1))) (va_up (va_up (va_up (va_up F 24 x) 25 y) 26 (upd w g (oc_b (oc_mh I F L N q (ze q) a y0)))) 23 (upd t k ((2 * ((nI q) - (nI b))) + (oc_b (oc_mh I F L N q (ze q) a y0))))) L) := hD
                              refine lv_iinc (v := nI (q + 1)) (lv' := [(7, .int (nI (q + 1))), (9, .int (oc_b (rl_ask (x g) (y g) (w g)))), (8, .int ((F 3) q)), (5, .int (nI g)), (0, .ref (h 0)), (1, .int (nI r)), (2, .int a), (3, .long y0)]) hx hb dX4_ruled_359 hl (k := 2) rfl (nI_1 q) (by decide) rfl (fun ls hl => ?_)
                              refine lv_goto (tgt := 61) hx hb dX4_ruled_362 (by decide) ?_
                              exact ih61 (q + 1) g x y (upd w g (oc_b (oc_mh I F L N q (ze q) a y0))) (k + 1) (upd t k ((2 * ((nI q) - (nI b))) + (oc_b (oc_mh I F L N q (ze q) a y0)))) (by omega) (by omega) hrun2 (by omega) (by omega) (fun i hi => by by_cases z : i = g; simp only [upd, z, if_true]; exact oc_bor _; simp only [upd, z, if_false]; exact hB i hi) H locs hP hD hS ls (lv_sub hl [0, 3, 4, 5, 6, 7] rfl)
                            · -- up to 347
                              refine lv_aload_n hx hb dX4_ruled_332 rfl (lv_at hl 4 rfl) ?_
                              refine va_get (D := D) (ci := 3) (v := .ref (h 26)) (C := RX4) (T := TX4) (N := 27) hx hb hts in_X4 hown hK hP 0 rfl rfl 26 (by decide) (hts _ q833) (fun _ h9 => h9) rfl dX4_ruled_333 ?_
                              refine lv_iload hx hb dX4_ruled_336 (lv_at hl 3 rfl) ?_
                              refine oc_zald hx hb hK hP 15 1 rfl rfl g rfl (by omega) (by decide) dX4_ruled_338 ?_
                              refine lv_if_eq (x := (upd w g (oc_b (oc_mh I F L N q (ze q) a y0))) g) (tgt := 346) hx hb dX4_ruled_339 (by decide) (fun c339 => ?_) (fun c339 => ?_)
                              · -- taken
                                refine lv_iconst (v := 0) hx hb dX4_ruled_346 (by decide) ?_
                                exact oc_topi (x := 0) (by have z : upd w g (oc_b (oc_mh I F L N q (ze q) a y0)) g = oc_b (oc_mh I F L N q (ze q) a y0) := (by simp [upd]); rw [z] at c339; rw [oc_b0] at c339; simp [oc_b, c339]) K347
                              · -- not taken
                                refine lv_iconst (v := 1) hx hb dX4_ruled_342 (by decide) ?_
                                refine lv_goto (tgt := 347) hx hb dX4_ruled_343 (by decide) ?_
                                exact oc_topi (x := 1) (by have z : upd w g (oc_b (oc_mh I F L N q (ze q) a y0)) g = oc_b (oc_mh I F L N q (ze q) a y0) := (by simp [upd]); rw [z] at c339; rw [oc_b0] at c339; simp [oc_b, c339]) K347
                    · -- not taken
                      dsimp only [rl_st] at hs
                      rw [if_neg c123, if_neg c161, if_pos c232] at hs
                      cases hs
                      refine lv_aload_n hx hb dX4_ruled_235 rfl (lv_at hl 4 rfl) ?_
                      refine va_get (D := D) (ci := 3) (v := .ref (h 25)) (C := RX4) (T := TX4) (N := 27) hx hb hts in_X4 hown hK hP 0 rfl rfl 25 (by decide) (hts _ q832) (fun _ h9 => h9) rfl dX4_ruled_236 ?_
                      refine lv_iload hx hb dX4_ruled_239 (lv_at hl 3 rfl) ?_
                      refine oc_cut (g2 := F0 m 266 ls [.int (oc_b (rl_or (y g) (w g))), .int (nI g), .ref (h 25)]) ?_ (fun K266 => ?_)
                      · -- behind 266
                        refine oc_zast hx hb hK hP hD hS 14 1 rfl rfl g rfl (by omega) (by decide) (v := oc_b (rl_or (y g) (w g))) (oc_bnar _) dX4_ruled_266 (fun H locs hP hD hS => ?_)
                        have hP : va_P D oc_cl (oc_mW d h (upd I 22 (nI k)) (va_up (va_up (va_up (va_up F 24 x) 25 (upd y g (oc_b (rl_or (y g) (w g))))) 26 w) 23 t) L) H := hP
                        have hD : va_D (oc_hA h) (oc_mW d h (upd I 22 (nI k)) (va_up (va_up (va_up (va_up F 24 x) 25 (upd y g (oc_b (rl_or (y g) (w g))))) 26 w) 23 t) L) := hD
                        refine lv_aload_n hx hb dX4_ruled_267 rfl (lv_at hl 4 rfl) ?_
                        refine va_get (D := D) (ci := 3) (v := .ref (h 26)) (C := RX4) (T := TX4) (N := 27) hx hb hts in_X4 hown hK hP 0 rfl rfl 26 (by decide) (hts _ q833) (fun _ h9 => h9) rfl dX4_ruled_268 ?_
                        refine lv_iload hx hb dX4_ruled_271 (lv_at hl 3 rfl) ?_
                        refine lv_iconst (v := 1) hx hb dX4_ruled_273 (by decide) ?_
                        refine oc_zast hx hb hK hP hD hS 15 1 rfl rfl g rfl (by omega) (by decide) (v := 1) rfl dX4_ruled_274 (fun H locs hP hD hS => ?_)
                        have hP : va_P D oc_cl (oc_mW d h (upd I 22 (nI k)) (va_up (va_up (va_up (va_up F 24 x) 25 (upd y g (oc_b (rl_or (y g) (w g))))) 26 (upd w g 1)) 23 t) L) H := hP
                        have hD : va_D (oc_hA h) (oc_mW d h (upd I 22 (nI k)) (va_up (va_up (va_up (va_up F 24 x) 25 (upd y g (oc_b (rl_or (y g) (w g))))) 26 (upd w g 1)) 23 t) L) := hD
                        refine lv_goto (tgt := 359) hx hb dX4_ruled_275 (by decide) ?_
                        refine lv_iinc (v := nI (q + 1)) (lv' := [(7, .int (nI (q + 1))), (9, .int (oc_b (rl_ask (x g) (y g) (w g)))), (8, .int ((F 3) q)), (5, .int (nI g)), (0, .ref (h 0)), (1, .int (nI r)), (2, .int a), (3, .long y0)]) hx hb dX4_ruled_359 hl (k := 2) rfl (nI_1 q) (by decide) rfl (fun ls hl => ?_)
                        refine lv_goto (tgt := 61) hx hb dX4_ruled_362 (by decide) ?_
                        exact ih61 (q + 1) g x (upd y g (oc_b (rl_or (y g) (w g)))) (upd w g 1) k t (by omega) (by omega) hrun2 (by omega) (by omega) (fun i hi => by by_cases z : i = g; simp only [upd, z, if_true]; exact Or.inr trivial; simp only [upd, z, if_false]; exact hB i hi) H locs hP hD hS ls (lv_sub hl [0, 3, 4, 5, 6, 7] rfl)
                      · -- up to 266
                        refine lv_aload_n hx hb dX4_ruled_241 rfl (lv_at hl 4 rfl) ?_
                        refine va_get (D := D) (ci := 3) (v := .ref (h 25)) (C := RX4) (T := TX4) (N := 27) hx hb hts in_X4 hown hK hP 0 rfl rfl 25 (by decide) (hts _ q832) (fun _ h9 => h9) rfl dX4_ruled_242 ?_
                        refine lv_iload hx hb dX4_ruled_245 (lv_at hl 3 rfl) ?_
                        refine oc_zald hx hb hK hP 14 1 rfl rfl g rfl (by omega) (by decide) dX4_ruled_247 ?_
                        refine lv_if_ne (x := y g) (tgt := 261) hx hb dX4_ruled_248 (by decide) (fun c248 => ?_) (fun c248 => ?_)
                        · -- taken
                          refine lv_iconst (v := 1) hx hb dX4_ruled_261 (by decide) ?_
                          refine lv_goto (tgt := 266) hx hb dX4_ruled_262 (by decide) ?_
                          exact oc_topi (x := 1) (by simp [rl_or, oc_b, *]) K266
                        · -- not taken
                          refine lv_aload_n hx hb dX4_ruled_251 rfl (lv_at hl 4 rfl) ?_
                          refine va_get (D := D) (ci := 3) (v := .ref (h 26)) (C := RX4) (T := TX4) (N := 27) hx hb hts in_X4 hown hK hP 0 rfl rfl 26 (by decide) (hts _ q833) (fun _ h9 => h9) rfl dX4_ruled_252 ?_
                          refine lv_iload hx hb dX4_ruled_255 (lv_at hl 3 rfl) ?_
                          refine oc_zald hx hb hK hP 15 1 rfl rfl g rfl (by omega) (by decide) dX4_ruled_257 ?_
                          refine lv_if_eq (x := w g) (tgt := 265) hx hb dX4_ruled_258 (by decide) (fun c258 => ?_) (fun c258 => ?_)
                          · -- taken
                            refine lv_iconst (v := 0) hx hb dX4_ruled_265 (by decide) ?_
                            exact oc_topi (x := 0) (by simp [rl_or, oc_b, *]) K266
                          · -- not taken
                            refine lv_iconst (v := 1) hx hb dX4_ruled_261 (by decide) ?_
                            refine lv_goto (tgt := 266) hx hb dX4_ruled_262 (by decide) ?_
                            exact oc_topi (x := 1) (by simp [rl_or, oc_b, *]) K266
                  · -- not taken
                    dsimp only [rl_st] at hs
                    rw [if_neg c123, if_pos c161] at hs
                    by_cases hg0 : 0 < g
                    rotate_left
                    · rw [if_neg hg0] at hs; cases hs
                    rw [if_pos hg0] at hs
                    cases hs
                    refine lv_iinc (v := nI (g - 1)) (lv' := [(5, .int (nI (g - 1))), (9, .int (oc_b (rl_ask (x g) (y g) (w g)))), (8, .int ((F 3) q)), (7, .int (nI q)), (0, .ref (h 0)), (1, .int (nI r)), (2, .int a), (3, .long y0)]) hx hb dX4_ruled_164 hl (k := 3) rfl (sb_m1 hg0) (by decide) rfl (fun ls hl => ?_)
                    refine lv_aload_n hx hb dX4_ruled_167 rfl (lv_at hl 4 rfl) ?_
                    refine va_get (D := D) (ci := 3) (v := .ref (h 26)) (C := RX4) (T := TX4) (N := 27) hx hb hts in_X4 hown hK hP 0 rfl rfl 26 (by decide) (hts _ q833) (fun _ h9 => h9) rfl dX4_ruled_168 ?_
                    refine lv_iload hx hb dX4_ruled_171 (lv_at hl 0 rfl) ?_
                    refine oc_cut (g2 := F0 m 224 ls [.int (if x g = 0 then w (g - 1) else oc_b (rl_or (y g) (w g))), .int (nI (g - 1)), .ref (h 26)]) ?_ (fun K224 => ?_)
                    · -- behind 224
                      refine oc_zast hx hb hK hP hD hS 15 1 rfl rfl (g - 1) rfl (by omega) (by decide) (v := if x g = 0 then w (g - 1) else oc_b (rl_or (y g) (w g))) (by split; exact oc_nar01 (hB _ (by omega)); exact oc_bnar _) dX4_ruled_224 (fun H locs hP hD hS => ?_)
                      have hP : va_P D oc_cl (oc_mW d h (upd I 22 (nI k)) (va_up (va_up (va_up (va_up F 24 x) 25 y) 26 (upd w (g - 1) (if x g = 0 then w (g - 1) else oc_b (rl_or (y g) (w g))))) 23 t) L) H := hP
                      have hD : va_D (oc_hA h) (oc_mW d h (upd I 22 (nI k)) (va_up (va_up (va_up (va_up F 24 x) 25 y) 26 (upd w (g - 1) (if x g = 0 then w (g - 1) else oc_b (rl_or (y g) (w g))))) 23 t) L) := hD
                      refine lv_goto (tgt := 359) hx hb dX4_ruled_225 (by decide) ?_
                      refine lv_iinc (v := nI (q + 1)) (lv' := [(7, .int (nI (q + 1))), (5, .int (nI (g - 1))), (9, .int (oc_b (rl_ask (x g) (y g) (w g)))), (8, .int ((F 3) q)), (0, .ref (h 0)), (1, .int (nI r)), (2, .int a), (3, .long y0)]) hx hb dX4_ruled_359 hl (k := 3) rfl (nI_1 q) (by decide) rfl (fun ls hl => ?_)
                      refine lv_goto (tgt := 61) hx hb dX4_ruled_362 (by decide) ?_
                      exact ih61 (q + 1) (g - 1) x y (upd w (g - 1) (if x g = 0 then w (g - 1) else oc_b (rl_or (y g) (w g)))) k t (by omega) (by omega) hrun2 (by omega) (by omega) (fun i hi => by by_cases z : i = g - 1; simp only [upd, z, if_true]; split; exact hB _ (by omega); exact oc_bor _; simp only [upd, z, if_false]; exact hB i hi) H locs hP hD hS ls (lv_sub hl [0, 1, 4, 5, 6, 7] rfl)
                    · -- up to 224
                      refine lv_aload_n hx hb dX4_ruled_173 rfl (lv_at hl 4 rfl) ?_
                      refine va_get (D := D) (ci := 3) (v := .ref (h 24)) (C := RX4) (T := TX4) (N := 27) hx hb hts in_X4 hown hK hP 0 rfl rfl 24 (by decide) (hts _ q831) (fun _ h9 => h9) rfl dX4_ruled_174 ?_
                      refine lv_iload hx hb dX4_ruled_177 (lv_at hl 0 rfl) ?_
                      refine lv_iconst (v := 1) hx hb dX4_ruled_179 (by decide) ?_
                      refine lv_iadd hx hb dX4_ruled_180 ?_
                      refine oc_topi (x := (nI (g - 1)) + 1) (y := nI g) (by rw [nI_1, show g - 1 + 1 = g by omega]) ?_
                      refine oc_zald hx hb hK hP 13 1 rfl rfl g rfl (by omega) (by decide) dX4_ruled_181 ?_
                      refine lv_if_eq (x := x g) (tgt := 217) hx hb dX4_ruled_182 (by decide) (fun c182 => ?_) (fun c182 => ?_)
                      · -- taken
                        refine lv_aload_n hx hb dX4_ruled_217 rfl (lv_at hl 4 rfl) ?_
                        refine va_get (D := D) (ci := 3) (v := .ref (h 26)) (C := RX4) (T := TX4) (N := 27) hx hb hts in_X4 hown hK hP 0 rfl rfl 26 (by decide) (hts _ q833) (fun _ h9 => h9) rfl dX4_ruled_218 ?_
                        refine lv_iload hx hb dX4_ruled_221 (lv_at hl 0 rfl) ?_
                        refine oc_zald hx hb hK hP 15 1 rfl rfl (g - 1) rfl (by omega) (by decide) dX4_ruled_223 ?_
                        exact oc_topi (x := w (g - 1)) (by simp [rl_or, oc_b, *]) K224
                      · -- not taken
                        refine lv_aload_n hx hb dX4_ruled_185 rfl (lv_at hl 4 rfl) ?_
                        refine va_get (D := D) (ci := 3) (v := .ref (h 25)) (C := RX4) (T := TX4) (N := 27) hx hb hts in_X4 hown hK hP 0 rfl rfl 25 (by decide) (hts _ q832) (fun _ h9 => h9) rfl dX4_ruled_186 ?_
                        refine lv_iload hx hb dX4_ruled_189 (lv_at hl 0 rfl) ?_
                        refine lv_iconst (v := 1) hx hb dX4_ruled_191 (by decide) ?_
                        refine lv_iadd hx hb dX4_ruled_192 ?_
                        refine oc_topi (x := (nI (g - 1)) + 1) (y := nI g) (by rw [nI_1, show g - 1 + 1 = g by omega]) ?_
                        refine oc_zald hx hb hK hP 14 1 rfl rfl g rfl (by omega) (by decide) dX4_ruled_193 ?_
                        refine lv_if_ne (x := y g) (tgt := 209) hx hb dX4_ruled_194 (by decide) (fun c194 => ?_) (fun c194 => ?_)
                        · -- taken
                          refine lv_iconst (v := 1) hx hb dX4_ruled_209 (by decide) ?_
                          refine lv_goto (tgt := 224) hx hb dX4_ruled_210 (by decide) ?_
                          exact oc_topi (x := 1) (by simp [rl_or, oc_b, *]) K224
                        · -- not taken
                          refine lv_aload_n hx hb dX4_ruled_197 rfl (lv_at hl 4 rfl) ?_
                          refine va_get (D := D) (ci := 3) (v := .ref (h 26)) (C := RX4) (T := TX4) (N := 27) hx hb hts in_X4 hown hK hP 0 rfl rfl 26 (by decide) (hts _ q833) (fun _ h9 => h9) rfl dX4_ruled_198 ?_
                          refine lv_iload hx hb dX4_ruled_201 (lv_at hl 0 rfl) ?_
                          refine lv_iconst (v := 1) hx hb dX4_ruled_203 (by decide) ?_
                          refine lv_iadd hx hb dX4_ruled_204 ?_
                          refine oc_topi (x := (nI (g - 1)) + 1) (y := nI g) (by rw [nI_1, show g - 1 + 1 = g by omega]) ?_
                          refine oc_zald hx hb hK hP 15 1 rfl rfl g rfl (by omega) (by decide) dX4_ruled_205 ?_
                          refine lv_if_eq (x := w g) (tgt := 213) hx hb dX4_ruled_206 (by decide) (fun c206 => ?_) (fun c206 => ?_)
                          · -- taken
                            refine lv_iconst (v := 0) hx hb dX4_ruled_213 (by decide) ?_
                            refine lv_goto (tgt := 224) hx hb dX4_ruled_214 (by decide) ?_
                            exact oc_topi (x := 0) (by simp [rl_or, oc_b, *]) K224
                          · -- not taken
                            refine lv_iconst (v := 1) hx hb dX4_ruled_209 (by decide) ?_
                            refine lv_goto (tgt := 224) hx hb dX4_ruled_210 (by decide) ?_
                            exact oc_topi (x := 1) (by simp [rl_or, oc_b, *]) K224
                · -- not taken
                  dsimp only [rl_st] at hs
                  rw [if_pos c123] at hs
                  by_cases hg8 : g < 8
                  rotate_left
                  · rw [if_neg hg8] at hs; cases hs
                  rw [if_pos hg8] at hs
                  cases hs
                  refine lv_iinc (v := nI (g + 1)) (lv' := [(5, .int (nI (g + 1))), (9, .int (oc_b (rl_ask (x g) (y g) (w g)))), (8, .int ((F 3) q)), (7, .int (nI q)), (0, .ref (h 0)), (1, .int (nI r)), (2, .int a), (3, .long y0)]) hx hb dX4_ruled_126 hl (k := 3) rfl (nI_1 g) (by decide) rfl (fun ls hl => ?_)
                  refine lv_aload_n hx hb dX4_ruled_129 rfl (lv_at hl 4 rfl) ?_
                  refine va_get (D := D) (ci := 3) (v := .ref (h 24)) (C := RX4) (T := TX4) (N := 27) hx hb hts in_X4 hown hK hP 0 rfl rfl 24 (by decide) (hts _ q831) (fun _ h9 => h9) rfl dX4_ruled_130 ?_
                  refine lv_iload hx hb dX4_ruled_133 (lv_at hl 0 rfl) ?_
                  refine lv_iload hx hb dX4_ruled_135 (lv_at hl 1 rfl) ?_
                  refine oc_zast hx hb hK hP hD hS 13 1 rfl rfl (g + 1) rfl (by omega) (by decide) (v := oc_b (rl_ask (x g) (y g) (w g))) (oc_bnar _) dX4_ruled_137 (fun H locs hP hD hS => ?_)
                  have hP : va_P D oc_cl (oc_mW d h (upd I 22 (nI k)) (va_up (va_up (va_up (va_up F 24 (upd x (g + 1) (oc_b (rl_ask (x g) (y g) (w g))))) 25 y) 26 w) 23 t) L) H := hP
                  have hD : va_D (oc_hA h) (oc_mW d h (upd I 22 (nI k)) (va_up (va_up (va_up (va_up F 24 (upd x (g + 1) (oc_b (rl_ask (x g) (y g) (w g))))) 25 y) 26 w) 23 t) L) := hD
                  refine lv_aload_n hx hb dX4_ruled_138 rfl (lv_at hl 4 rfl) ?_
                  refine va_get (D := D) (ci := 3) (v := .ref (h 25)) (C := RX4) (T := TX4) (N := 27) hx hb hts in_X4 hown hK hP 0 rfl rfl 25 (by decide) (hts _ q832) (fun _ h9 => h9) rfl dX4_ruled_139 ?_
                  refine lv_iload hx hb dX4_ruled_142 (lv_at hl 0 rfl) ?_
                  refine lv_iconst (v := 0) hx hb dX4_ruled_144 (by decide) ?_
                  refine oc_zast hx hb hK hP hD hS 14 1 rfl rfl (g + 1) rfl (by omega) (by decide) (v := 0) rfl dX4_ruled_145 (fun H locs hP hD hS => ?_)
                  have hP : va_P D oc_cl (oc_mW d h (upd I 22 (nI k)) (va_up (va_up (va_up (va_up F 24 (upd x (g + 1) (oc_b (rl_ask (x g) (y g) (w g))))) 25 (upd y (g + 1) 0)) 26 w) 23 t) L) H := hP
                  have hD : va_D (oc_hA h) (oc_mW d h (upd I 22 (nI k)) (va_up (va_up (va_up (va_up F 24 (upd x (g + 1) (oc_b (rl_ask (x g) (y g) (w g))))) 25 (upd y (g + 1) 0)) 26 w) 23 t) L) := hD
                  refine lv_aload_n hx hb dX4_ruled_146 rfl (lv_at hl 4 rfl) ?_
                  refine va_get (D := D) (ci := 3) (v := .ref (h 26)) (C := RX4) (T := TX4) (N := 27) hx hb hts in_X4 hown hK hP 0 rfl rfl 26 (by decide) (hts _ q833) (fun _ h9 => h9) rfl dX4_ruled_147 ?_
                  refine lv_iload hx hb dX4_ruled_150 (lv_at hl 0 rfl) ?_
                  refine lv_iconst (v := 1) hx hb dX4_ruled_152 (by decide) ?_
                  refine oc_zast hx hb hK hP hD hS 15 1 rfl rfl (g + 1) rfl (by omega) (by decide) (v := 1) rfl dX4_ruled_153 (fun H locs hP hD hS => ?_)
                  have hP : va_P D oc_cl (oc_mW d h (upd I 22 (nI k)) (va_up (va_up (va_up (va_up F 24 (upd x (g + 1) (oc_b (rl_ask (x g) (y g) (w g))))) 25 (upd y (g + 1) 0)) 26 (upd w (g + 1) 1)) 23 t) L) H := hP
                  have hD : va_D (oc_hA h) (oc_mW d h (upd I 22 (nI k)) (va_up (va_up (va_up (va_up F 24 (upd x (g + 1) (oc_b (rl_ask (x g) (y g) (w g))))) 25 (upd y (g + 1) 0)) 26 (upd w (g + 1) 1)) 23 t) L) := hD
                  refine lv_goto (tgt := 359) hx hb dX4_ruled_154 (by decide) ?_
                  refine lv_iinc (v := nI (q + 1)) (lv' := [(7, .int (nI (q + 1))), (5, .int (nI (g + 1))), (9, .int (oc_b (rl_ask (x g) (y g) (w g)))), (8, .int ((F 3) q)), (0, .ref (h 0)), (1, .int (nI r)), (2, .int a), (3, .long y0)]) hx hb dX4_ruled_359 hl (k := 3) rfl (nI_1 q) (by decide) rfl (fun ls hl => ?_)
                  refine lv_goto (tgt := 61) hx hb dX4_ruled_362 (by decide) ?_
                  exact ih61 (q + 1) (g + 1) (upd x (g + 1) (oc_b (rl_ask (x g) (y g) (w g)))) (upd y (g + 1) 0) (upd w (g + 1) 1) k t (by omega) (by omega) hrun2 (by omega) (by omega) (fun i hi => by by_cases z : i = g + 1; simp only [upd, z, if_true]; exact Or.inr trivial; simp only [upd, z, if_false]; exact hB i hi) H locs hP hD hS ls (lv_sub hl [0, 1, 4, 5, 6, 7] rfl)
              · -- up to 117
                refine lv_aload_n hx hb dX4_ruled_82 rfl (lv_at hl 3 rfl) ?_
                refine va_get (D := D) (ci := 3) (v := .ref (h 24)) (C := RX4) (T := TX4) (N := 27) hx hb hts in_X4 hown hK hP 0 rfl rfl 24 (by decide) (hts _ q831) (fun _ h9 => h9) rfl dX4_ruled_83 ?_
                refine lv_iload hx hb dX4_ruled_86 (lv_at hl 2 rfl) ?_
                refine oc_zald hx hb hK hP 13 1 rfl rfl g rfl (by omega) (by decide) dX4_ruled_88 ?_
                refine lv_if_eq (x := x g) (tgt := 116) hx hb dX4_ruled_89 (by decide) (fun c89 => ?_) (fun c89 => ?_)
                · -- taken
                  refine lv_iconst (v := 0) hx hb dX4_ruled_116 (by decide) ?_
                  exact oc_topi (x := 0) (by simp [rl_ask, oc_b, *]) K117
                · -- not taken
                  refine lv_aload_n hx hb dX4_ruled_92 rfl (lv_at hl 3 rfl) ?_
                  refine va_get (D := D) (ci := 3) (v := .ref (h 25)) (C := RX4) (T := TX4) (N := 27) hx hb hts in_X4 hown hK hP 0 rfl rfl 25 (by decide) (hts _ q832) (fun _ h9 => h9) rfl dX4_ruled_93 ?_
                  refine lv_iload hx hb dX4_ruled_96 (lv_at hl 2 rfl) ?_
                  refine oc_zald hx hb hK hP 14 1 rfl rfl g rfl (by omega) (by decide) dX4_ruled_98 ?_
                  refine lv_if_ne (x := y g) (tgt := 116) hx hb dX4_ruled_99 (by decide) (fun c99 => ?_) (fun c99 => ?_)
                  · -- taken
                    refine lv_iconst (v := 0) hx hb dX4_ruled_116 (by decide) ?_
                    exact oc_topi (x := 0) (by simp [rl_ask, oc_b, *]) K117
                  · -- not taken
                    refine lv_aload_n hx hb dX4_ruled_102 rfl (lv_at hl 3 rfl) ?_
                    refine va_get (D := D) (ci := 3) (v := .ref (h 26)) (C := RX4) (T := TX4) (N := 27) hx hb hts in_X4 hown hK hP 0 rfl rfl 26 (by decide) (hts _ q833) (fun _ h9 => h9) rfl dX4_ruled_103 ?_
                    refine lv_iload hx hb dX4_ruled_106 (lv_at hl 2 rfl) ?_
                    refine oc_zald hx hb hK hP 15 1 rfl rfl g rfl (by omega) (by decide) dX4_ruled_108 ?_
                    refine lv_if_eq (x := w g) (tgt := 116) hx hb dX4_ruled_109 (by decide) (fun c109 => ?_) (fun c109 => ?_)
                    · -- taken
                      refine lv_iconst (v := 0) hx hb dX4_ruled_116 (by decide) ?_
                      exact oc_topi (x := 0) (by simp [rl_ask, oc_b, *]) K117
                    · -- not taken
                      refine lv_iconst (v := 1) hx hb dX4_ruled_112 (by decide) ?_
                      refine lv_goto (tgt := 117) hx hb dX4_ruled_113 (by decide) ?_
                      exact oc_topi (x := 1) (by simp [rl_ask, oc_b, *]) K117
        exact lp61 (E + 1) (b + qd + 1) 0 (upd (F 24) 0 1) (upd (F 25) 0 0) (upd (F 26) 0 1) 0 (F 23) (by omega) (by omega) hrun0 (by omega) (by omega) (fun i hi => by by_cases z : i = 0; subst z; exact Or.inr rfl; simp only [upd, z, if_false]; exact hal i hi) H locs hP hD hS ls (lv_sub hl [0, 2, 3, 4, 5, 6] rfl)
      · -- not taken
        have hjq : j < qd := by
          rcases Nat.lt_or_ge j qd with z | z
          · exact z
          · exact absurd (by rw [show j = qd by omega]; exact hw2) c46
        refine lv_iinc (v := nI (b + (j + 1))) (lv' := [(6, .int (nI (b + (j + 1)))), (5, .int 0), (0, .ref (h 0)), (1, .int (nI r)), (2, .int a), (3, .long y0)]) hx hb dX4_ruled_49 hl (k := 0) rfl (nI_1 (b + j)) (by decide) rfl (fun ls hl => ?_)
        refine lv_goto (tgt := 37) hx hb dX4_ruled_52 (by decide) ?_
        exact ih37 (j + 1) (by omega) (by omega) H locs hP hD hS ls (lv_sub hl [0, 1, 2, 3, 4, 5] rfl)
  exact lp37 (qd + 1) 0 (by omega) (by omega) H locs hP hD hS ls (lv_sub hl [0, 1, 2, 3, 4, 5] rfl)
