/-! ===== factor ===== -/
def od_isf (x : Int32) (e : Nat) : Bool := decide (x = 87 ∨ x = 67 ∨ x = 72 ∨ x = 83 ∨ x = 86 ∨ x = 80 ∨ (x = 40 ∧ e < 8))
theorem od_isf1 {x : Int32} {e : Nat} (h : od_isf x e = true) : ¬ x = -1 := by
  intro z
  subst z
  unfold od_isf at h
  rcases of_decide_eq_true h with h | h | h | h | h | h | h
  · exact absurd h (by decide)
  · exact absurd h (by decide)
  · exact absurd h (by decide)
  · exact absurd h (by decide)
  · exact absurd h (by decide)
  · exact absurd h (by decide)
  · exact absurd h.1 (by decide)
theorem od_isf0 {T : Nat → Int32} {N i e : Nat} (h : od_isf (od_lk T N i) e = false) : ∀ x, x = 87 ∨ x = 67 ∨ x = 72 ∨ x = 83 ∨ x = 86 ∨ x = 80 ∨ (x = 40 ∧ e < 8) → ¬ od_lk T N i = x := by
  intro x hx hz
  unfold od_isf at h
  rw [hz] at h
  exact of_decide_eq_false h hx
theorem od_isf2 {x : Int32} {e : Nat} (h : od_isf x e = true) (h1 : ¬ x = 87) (h2 : ¬ x = 67) (h3 : ¬ x = 72) (h4 : ¬ x = 83) (h5 : ¬ x = 86) (h6 : ¬ x = 80) : x = 40 ∧ e < 8 := by
  unfold od_isf at h
  rcases of_decide_eq_true h with h | h | h | h | h | h | h
  · exact absurd h h1
  · exact absurd h h2
  · exact absurd h h3
  · exact absurd h h4
  · exact absurd h h5
  · exact absurd h h6
  · exact h
theorem od_dtr {tx r : Nat} {e1 e2 : va_E} (h : tx ≠ r) : ∀ z ∈ ([(tx, e1)] : va_W), ∀ y ∈ ([(r, e2)] : va_W), z.1 ≠ y.1 := by
  intro z hz y hy
  simp only [List.mem_cons, List.not_mem_nil, or_false] at hz hy
  subst hz
  subst hy
  exact h
theorem od_Fa.leaf {D : va_G} {d : Nat → ClassId} {E0 : Nat} {f : Nat → Int32} {b : Nat} {nm : Nat → Int32} {B : Nat → Prop} {H : Heap} {a q : Nat} (h : od_lf D f b nm B H a q) : ∀ e, od_Fa D d E0 f b nm B H e a (od_leaf q)
  | 0 => ⟨q, h, rfl⟩
  | _ + 1 => Or.inl ⟨q, h, rfl⟩
theorem od_RSnum {f T : Nat → Int32} {N b e i j : Nat} (hTf : ∀ q, q < N → f q = T q) (hi : f i = 86 ∨ f i = 80) (hds : od_ds T N (i + 1) j) : od_RS f b e i (i + 1 + j) (od_leaf i) := by
  have hh : ¬ f i = 40 ∧ ¬ f i = 41 ∧ ¬ f i = 124 ∧ ¬ f i = 38 ∧ oc_dig (f i) = false := by rcases hi with h | h <;> rw [h] <;> decide
  refine od_RSleaf (by omega) hh.1 hh.2.1 hh.2.2.1 hh.2.2.2.1 hh.2.2.2.2 (fun a h1 h2 => ?_)
  have h3 := hds (a - (i + 1)) (by omega)
  rw [show i + 1 + (a - (i + 1)) = a by omega] at h3
  have h4 := od_lkd h3
  rw [od_lkt h4] at h3
  rw [hTf a h4]
  exact h3
theorem od_RS1 {f : Nat → Int32} {b e i : Nat} (hi : f i = 87 ∨ f i = 67 ∨ f i = 72 ∨ f i = 83) : od_RS f b e i (i + 1) (od_leaf i) := by
  have hh : ¬ f i = 40 ∧ ¬ f i = 41 ∧ ¬ f i = 124 ∧ ¬ f i = 38 ∧ oc_dig (f i) = false := by rcases hi with h | h | h | h <;> rw [h] <;> decide
  exact od_RSleaf (by omega) hh.1 hh.2.1 hh.2.2.1 hh.2.2.2.1 hh.2.2.2.2 (fun a h1 h2 => absurd h2 (by omega))
theorem od_dsN {T : Nat → Int32} {N i j : Nat} (h : od_ds T N i j) (hi : i ≤ N) : i + j ≤ N := by
  rcases Nat.eq_zero_or_pos j with z | z
  · omega
  · have h1 := od_lkd (h (j - 1) (by omega))
    omega
set_option maxHeartbeats 4000000 in
set_option maxRecDepth 100000 in
theorem kX2_factor {l : Launch} {s0 : State} {b0 : Addr} {D : va_G} {d : Nat → ClassId} (G : oc_G l s0 b0 D d) {H : Heap} (r tx N i b dd k ed FR LO : Nat) (T T6 f nm : Nat → Int32) (E0 : Nat) (hN3 : N ≤ 300) (hiN : i ≤ N) (hdd : dd + ed = 8) (hAH : od_AH T T6 i dd k) (hP : va_P D oc_cl ([(r, .inr (1, [.ref tx, .int (nI N), .int (nI i), .int (nI b), .int (nI dd)]))] : va_W) H) (hD : va_D (va_A ([(r, .inr (1, [.ref tx, .int (nI N), .int (nI i), .int (nI b), .int (nI dd)]))] : va_W) (Array.size H)) ([(r, .inr (1, [.ref tx, .int (nI N), .int (nI i), .int (nI b), .int (nI dd)]))] : va_W)) (hN0 : ∀ z_9 ∈ ([(r, .inr (1, [.ref tx, .int (nI N), .int (nI i), .int (nI b), .int (nI dd)]))] : va_W), s0.heap.size ≤ z_9.1) (hPt : va_P D oc_cl ([(tx, .inl (d 2, 300, .inl T))] : va_W) H) (hPt_d : ∀ z_8 ∈ ([(tx, .inl (d 2, 300, .inl T))] : va_W), ∀ z_9 ∈ ([(r, .inr (1, [.ref tx, .int (nI N), .int (nI i), .int (nI b), .int (nI dd)]))] : va_W), z_8.1 ≠ z_9.1) (hTf : ∀ q, q < N → f q = T q) (hnm : ∀ q j, 1 ≤ j → od_ds T N (q + 1) j → oc_dig (od_lk T N (q + 1 + j)) = false → nm q = oc_nm T (q + 1) j) (hRul : dd < 8 → ∃ e9, ed = e9 + 1 ∧ od_Kf l s0 D d r tx N T T6 b (dd + 1) k yX2_rule FR LO 20 120 (od_dR D d E0 f b nm e9) (od_RR f b (dd + 1)) 4 40 (fun j => ¬ od_lk T N j = 38 ∧ ¬ od_lk T N j = 124)) : oc_C l s0 yX2_factor (oc_rm (FR + 20) (LO + 300) (20 * (N - i) + 1) (300 * (N - i) + 6)) [.ref r] H (va_A ([(r, .inr (1, [.ref tx, .int (nI N), .int (nI i), .int (nI b), .int (nI dd)]))] : va_W) (Array.size H)) (od_RT (od_PP D r tx N T T6 b dd k i H (va_A ([(r, .inr (1, [.ref tx, .int (nI N), .int (nI i), .int (nI b), .int (nI dd)]))] : va_W) (Array.size H)) (od_dF D d E0 f b nm ed) (od_RS f b dd) 10 200 (fun _ => True)) (od_QQ s0 D r tx N T T6 b i H (va_A ([(r, .inr (1, [.ref tx, .int (nI N), .int (nI i), .int (nI b), .int (nI dd)]))] : va_W) (Array.size H)) 1 6)) := by
  refine oc_start G (cc := cX2_factor) (L := 4) (ret := (Option.some (Jvm.ClassFile.FieldType.object "OriginRules$Node"))) q333 (Nat.le_of_ble_eq_true rfl) ?_
  intro p e s m below meth c ls hx hok hb hml hr hlocks htab hown hts hK hmn hh hl
  subst hh
  have hl : lv_has ls 4 [(0, .ref r)] := hl
  have hN0 := oc_N0 hok hN0
  have hA : ∀ q, Array.size s.heap ≤ q → (va_A ([(r, .inr (1, [.ref tx, .int (nI N), .int (nI i), .int (nI b), .int (nI dd)]))] : va_W) (Array.size s.heap)) q := fun q z => Or.inr z
  have hS : va_S (va_A ([(r, .inr (1, [.ref tx, .int (nI N), .int (nI i), .int (nI b), .int (nI dd)]))] : va_W) (Array.size s.heap)) s.heap s.heap [] := va_S.rf
  have hPt_n : ∀ z_9 ∈ ([(tx, .inl (d 2, 300, .inl T))] : va_W), ¬ (va_A ([(r, .inr (1, [.ref tx, .int (nI N), .int (nI i), .int (nI b), .int (nI dd)]))] : va_W) (Array.size s.heap)) z_9.1 := oc_nA hPt hPt_d
  generalize hAe : (va_A ([(r, .inr (1, [.ref tx, .int (nI N), .int (nI i), .int (nI b), .int (nI dd)]))] : va_W) (Array.size s.heap)) = A at *
  have hPt_0 := hPt
  have hrs : r < Array.size s.heap := (hP 0 _ rfl).lt
  have htr : tx ≠ r := hPt_d _ (List.mem_singleton_self _) _ (List.mem_singleton_self _)
  refine lv_aload_n hx hb dX2_factor_0 rfl (lv_at hl 0 rfl) ?_
  refine va_get (D := D) (ci := 1) (v := .int (nI i)) (C := RX2) (T := TX2) (N := 5) hx hb hts in_X2 hown hK hP 0 rfl rfl 2 (by decide) (hts _ q73) (fun _ h9 => h9) rfl dX2_factor_1 ?_
  refine lv_aload_n hx hb dX2_factor_4 rfl (lv_at hl 0 rfl) ?_
  refine va_get (D := D) (ci := 1) (v := .int (nI b)) (C := RX2) (T := TX2) (N := 5) hx hb hts in_X2 hown hK hP 0 rfl rfl 3 (by decide) (hts _ q75) (fun _ h9 => h9) rfl dX2_factor_5 ?_
  refine lv_isub hx hb dX2_factor_8 ?_
  refine lv_istore_n (lv' := [(1, .int ((nI i) - (nI b))), (0, .ref r)]) hx hb dX2_factor_9 rfl hl (by decide) rfl (fun ls hl => ?_)
  refine lv_aload_n hx hb dX2_factor_10 rfl (lv_at hl 1 rfl) ?_
  refine oc_callR1 hx hb hml hl.1 ⟨hok, hS, hN0⟩ (oc_iV (As := []) (rest := []) hx hb hown (hts _ q219) (hts _ q221) (hts _ qs3) (oc_Sig.of (hts _ q222) (by decide +kernel : (parseMethodDescriptor "()I").map (fun d => d.parameters.length) = some 0)) (va_recv hK hP (ci := 1) (q0 := 0) rfl rfl) ⟨by decide, by decide⟩ dX2_factor_11 rfl) (oc_M.of (by decide +kernel) (hts _ q222)) (kX2_look G r tx N i (nI b) (nI dd) T hN3 (by omega) (oc_Pc (hP 0 _ rfl) hPt)) dX2_factor_11 (by dsimp only [oc_rm]; omega) (by simp only [oc_rm, List.map_cons, List.map_nil, List.sum_cons, List.sum_nil, Value.category]; omega) (by dsimp only [oc_rm]; omega) (by dsimp only [oc_rm]; omega) ?_
  refine lv_istore_n (lv' := [(2, .int (od_lk T N i)), (1, .int ((nI i) - (nI b))), (0, .ref r)]) hx hb dX2_factor_14 rfl hl (by decide) rfl (fun ls hl => ?_)
  refine lv_aload_n hx hb dX2_factor_15 rfl (lv_at hl 2 rfl) ?_
  refine oc_cut (g2 := F0 m 72 ls [.int (oc_b (od_isf (od_lk T N i) dd)), .ref r]) ?_ (fun K72 => ?_)
  · -- behind 72
    by_cases hb_72 : (od_isf (od_lk T N i) dd) = true
    ·
      refine oc_topi (x := oc_b (od_isf (od_lk T N i) dd)) (y := 1) (by rw [hb_72]; rfl) ?_
      refine oc_callR (v := none) hx hb hml hl.1 ⟨hok, hS, hN0⟩ (oc_iV (As := [.int 1]) (rest := []) hx hb hown (hts _ q226) (hts _ q228) (hts _ qs4) (oc_Sig.of (hts _ q229) (by decide +kernel : (parseMethodDescriptor "(Z)V").map (fun d => d.parameters.length) = some 1)) (va_recv hK hP (ci := 1) (q0 := 0) rfl rfl) ⟨by decide, by decide⟩ dX2_factor_72 rfl) (oc_M.of (by decide +kernel) (hts _ q229)) (kX2_need1 G r) dX2_factor_72 (by dsimp only [oc_rm]; omega) (by simp only [oc_rm, List.map_cons, List.map_nil, List.sum_cons, List.sum_nil, Value.category]; omega) (by dsimp only [oc_rm]; omega) (by dsimp only [oc_rm]; omega) ?_
      refine W.eq (g2 := F0 m 75 ls []) rfl ?_
      obtain ⟨hiN2, hTi0⟩ := od_lki (x := od_lk T N i) rfl (od_isf1 hb_72)
      refine lv_aload_n hx hb dX2_factor_75 rfl (lv_at hl 2 rfl) ?_
      refine lv_dup hx hb dX2_factor_76 rfl ?_
      refine va_get (D := D) (ci := 1) (v := .int (nI i)) (C := RX2) (T := TX2) (N := 5) hx hb hts in_X2 hown hK hP 0 rfl rfl 2 (by decide) (hts _ q73) (fun _ h9 => h9) rfl dX2_factor_77 ?_
      refine lv_iconst (v := 1) hx hb dX2_factor_80 (by decide) ?_
      refine lv_iadd hx hb dX2_factor_81 ?_
      refine oc_topi (x := (nI i) + 1) (y := nI (i + 1)) (nI_1 i) ?_
      refine va_put (D := D) (ci := 1) (v := .int (nI (i + 1))) (ty := .int) (C := RX2) (T := TX2) (N := 5) hx hb hts in_X2 tyX2 tyX2_ok nmX2 hown hK hP hD hS 0 rfl rfl 2 (by decide) (hts _ q73) (fun _ h9 => h9) rfl (by decide +kernel) rfl rfl (Nat.le_of_ble_eq_true rfl) dX2_factor_82 (fun H locs hP hD hS => ?_)
      have hP : va_P D oc_cl ([(r, .inr (1, [.ref tx, .int (nI N), .int (nI (i + 1)), .int (nI b), .int (nI dd)]))] : va_W) H := hP
      have hD : va_D A ([(r, .inr (1, [.ref tx, .int (nI N), .int (nI (i + 1)), .int (nI b), .int (nI dd)]))] : va_W) := hD
      have hPt : va_P D oc_cl ([(tx, .inl (d 2, 300, .inl T))] : va_W) H := od_keep hPt_0 hPt_n hS
      refine lv_iload_n hx hb dX2_factor_85 rfl (lv_at hl 0 rfl) ?_
      by_cases w86_67 : od_lk T N i = 67
      · -- case 67
        refine lv_lookup (x := od_lk T N i) (off := 67) (tgt := 153) hx hb dX2_factor_86 (by decide) (by rw [w86_67]; rfl) (by decide) ?_
        have hTi : T i = 67 := hTi0.trans w86_67
        have hfi : f i = 67 := (hTf i hiN2).trans hTi
        refine oc_new (D := D) (C := RX10) (T := TX10) (N := 2) (ci := 8) (fs := [.int 0, .int 0]) hx hb hts in_X10 tyX10 tyX10_ok hown (hts _ q347) (hts _ q348) (hts _ q39) hK hP hD hS hA rfl (by decide +kernel) (by dsimp only [oc_rm]; omega) (by dsimp only [oc_rm]; omega) dX2_factor_153 (fun q_1 H hq_q_1 hz_q_1 ho_q_1 hP hD hS => ?_)
        have hP : va_P D oc_cl ([(r, .inr (1, [.ref tx, .int (nI N), .int (nI (i + 1)), .int (nI b), .int (nI dd)])), (q_1, .inr (8, [.int 0, .int 0]))] : va_W) H := hP
        have hD : va_D A ([(r, .inr (1, [.ref tx, .int (nI N), .int (nI (i + 1)), .int (nI b), .int (nI dd)])), (q_1, .inr (8, [.int 0, .int 0]))] : va_W) := hD
        have hPt : va_P D oc_cl ([(tx, .inl (d 2, 300, .inl T))] : va_W) H := od_keep hPt_0 hPt_n hS
        refine lv_dup hx hb dX2_factor_156 rfl ?_
        refine lv_iload_n hx hb dX2_factor_157 rfl (lv_at hl 1 rfl) ?_
        refine lv_sipush (v := 10000) hx hb dX2_factor_158 (by decide) ?_
        have hF_ : ∀ q, va_A ([(q_1, .inr (8, [.int 0, .int 0]))] : va_W) (Array.size H) q → A q := va_free hD hS hA [1] rfl
        refine oc_callP (A1 := va_A ([(q_1, .inr (8, [.int 0, .int 0]))] : va_W) (Array.size H)) hx hb hml hl.1 ⟨hok, hS, hN0⟩ (oc_iI (As := [.int ((nI i) - (nI b)), .int 10000]) (rest := [.ref q_1]) hx hb hown (hts _ q349) (hts _ q350) (hts _ q351) ⟨by decide, by decide, by decide, (by decide +kernel : (parseMethodDescriptor "(II)V").map (fun d => d.parameters.length) = some 2)⟩ dX2_factor_161 rfl) (oc_M.of (by decide +kernel) (hts _ q351)) (kX10_init G q_1 ((nI i) - (nI b)) (10000) (hP.sub [1] rfl) ((hD.sub [1] rfl rfl).self) (oc_N1 hD hN0 [1] rfl)) hF_ dX2_factor_161 (by dsimp only [oc_rm]; omega) (by simp only [oc_rm, List.map_cons, List.map_nil, List.sum_cons, List.sum_nil, Value.category]; omega) (by dsimp only [oc_rm]; omega) (by dsimp only [oc_rm]; omega) (fun v_ H locs k_ n_ hp_ hz_ hk_ hS => ?_)
        obtain ⟨rfl, rfl, rfl, hP1, hD1⟩ := hp_
        obtain ⟨hP, hD⟩ := va_join (w1 := ([(q_1, .inr (8, [.int ((nI i) - (nI b)), .int 10000]))] : va_W)) (wr := ([(r, .inr (1, [.ref tx, .int (nI N), .int (nI (i + 1)), .int (nI b), .int (nI dd)]))] : va_W)) hP hD [1] [0] rfl rfl rfl (by decide) hk_ hF_ hP1 hD1
        have hP : va_P D oc_cl ([(r, .inr (1, [.ref tx, .int (nI N), .int (nI (i + 1)), .int (nI b), .int (nI dd)])), (q_1, .inr (8, [.int ((nI i) - (nI b)), .int 10000]))] : va_W) H := hP
        have hD : va_D A ([(r, .inr (1, [.ref tx, .int (nI N), .int (nI (i + 1)), .int (nI b), .int (nI dd)])), (q_1, .inr (8, [.int ((nI i) - (nI b)), .int 10000]))] : va_W) := hD
        have hPt : va_P D oc_cl ([(tx, .inl (d 2, 300, .inl T))] : va_W) H := od_keep hPt_0 hPt_n hS
        refine W.eq (g2 := F0 m 164 ls [.ref q_1]) rfl ?_
        exact oc_aret hx hb hr (Or.inl ⟨_, rfl⟩) (Or.inr ⟨_, rfl⟩) hlocks hS dX2_factor_164 (Or.inl ⟨_, rfl, i + 1, q_1, od_leaf i, rfl, by omega, by omega, hP.sub [0] rfl, hD.sub [0] rfl rfl, od_a1f hAH (by rw [hTi]; decide), od_Fa.leaf ⟨(od_frs (by rw [hAe]; exact hD) (i := 1) (j := 0) rfl rfl (by decide)), Or.inr (Or.inl ⟨hfi, hP 1 _ rfl⟩)⟩ ed, od_RS1 (by rw [hfi]; decide), by omega, by omega, trivial⟩)
      by_cases w86_72 : od_lk T N i = 72
      · -- case 72
        refine lv_lookup (x := od_lk T N i) (off := 79) (tgt := 165) hx hb dX2_factor_86 (by decide) (by rw [w86_72]; rfl) (by decide) ?_
        have hTi : T i = 72 := hTi0.trans w86_72
        have hfi : f i = 72 := (hTf i hiN2).trans hTi
        refine oc_new (D := D) (C := RX10) (T := TX10) (N := 2) (ci := 8) (fs := [.int 0, .int 0]) hx hb hts in_X10 tyX10 tyX10_ok hown (hts _ q347) (hts _ q348) (hts _ q39) hK hP hD hS hA rfl (by decide +kernel) (by dsimp only [oc_rm]; omega) (by dsimp only [oc_rm]; omega) dX2_factor_165 (fun q_2 H hq_q_2 hz_q_2 ho_q_2 hP hD hS => ?_)
        have hP : va_P D oc_cl ([(r, .inr (1, [.ref tx, .int (nI N), .int (nI (i + 1)), .int (nI b), .int (nI dd)])), (q_2, .inr (8, [.int 0, .int 0]))] : va_W) H := hP
        have hD : va_D A ([(r, .inr (1, [.ref tx, .int (nI N), .int (nI (i + 1)), .int (nI b), .int (nI dd)])), (q_2, .inr (8, [.int 0, .int 0]))] : va_W) := hD
        have hPt : va_P D oc_cl ([(tx, .inl (d 2, 300, .inl T))] : va_W) H := od_keep hPt_0 hPt_n hS
        refine lv_dup hx hb dX2_factor_168 rfl ?_
        refine lv_iload_n hx hb dX2_factor_169 rfl (lv_at hl 1 rfl) ?_
        refine lv_bipush (v := 100) hx hb dX2_factor_170 (by decide) ?_
        have hF_ : ∀ q, va_A ([(q_2, .inr (8, [.int 0, .int 0]))] : va_W) (Array.size H) q → A q := va_free hD hS hA [1] rfl
        refine oc_callP (A1 := va_A ([(q_2, .inr (8, [.int 0, .int 0]))] : va_W) (Array.size H)) hx hb hml hl.1 ⟨hok, hS, hN0⟩ (oc_iI (As := [.int ((nI i) - (nI b)), .int 100]) (rest := [.ref q_2]) hx hb hown (hts _ q349) (hts _ q350) (hts _ q351) ⟨by decide, by decide, by decide, (by decide +kernel : (parseMethodDescriptor "(II)V").map (fun d => d.parameters.length) = some 2)⟩ dX2_factor_172 rfl) (oc_M.of (by decide +kernel) (hts _ q351)) (kX10_init G q_2 ((nI i) - (nI b)) (100) (hP.sub [1] rfl) ((hD.sub [1] rfl rfl).self) (oc_N1 hD hN0 [1] rfl)) hF_ dX2_factor_172 (by dsimp only [oc_rm]; omega) (by simp only [oc_rm, List.map_cons, List.map_nil, List.sum_cons, List.sum_nil, Value.category]; omega) (by dsimp only [oc_rm]; omega) (by dsimp only [oc_rm]; omega) (fun v_ H locs k_ n_ hp_ hz_ hk_ hS => ?_)
        obtain ⟨rfl, rfl, rfl, hP1, hD1⟩ := hp_
        obtain ⟨hP, hD⟩ := va_join (w1 := ([(q_2, .inr (8, [.int ((nI i) - (nI b)), .int 100]))] : va_W)) (wr := ([(r, .inr (1, [.ref tx, .int (nI N), .int (nI (i + 1)), .int (nI b), .int (nI dd)]))] : va_W)) hP hD [1] [0] rfl rfl rfl (by decide) hk_ hF_ hP1 hD1
        have hP : va_P D oc_cl ([(r, .inr (1, [.ref tx, .int (nI N), .int (nI (i + 1)), .int (nI b), .int (nI dd)])), (q_2, .inr (8, [.int ((nI i) - (nI b)), .int 100]))] : va_W) H := hP
        have hD : va_D A ([(r, .inr (1, [.ref tx, .int (nI N), .int (nI (i + 1)), .int (nI b), .int (nI dd)])), (q_2, .inr (8, [.int ((nI i) - (nI b)), .int 100]))] : va_W) := hD
        have hPt : va_P D oc_cl ([(tx, .inl (d 2, 300, .inl T))] : va_W) H := od_keep hPt_0 hPt_n hS
        refine W.eq (g2 := F0 m 175 ls [.ref q_2]) rfl ?_
        exact oc_aret hx hb hr (Or.inl ⟨_, rfl⟩) (Or.inr ⟨_, rfl⟩) hlocks hS dX2_factor_175 (Or.inl ⟨_, rfl, i + 1, q_2, od_leaf i, rfl, by omega, by omega, hP.sub [0] rfl, hD.sub [0] rfl rfl, od_a1f hAH (by rw [hTi]; decide), od_Fa.leaf ⟨(od_frs (by rw [hAe]; exact hD) (i := 1) (j := 0) rfl rfl (by decide)), Or.inr (Or.inr (Or.inl ⟨hfi, hP 1 _ rfl⟩))⟩ ed, od_RS1 (by rw [hfi]; decide), by omega, by omega, trivial⟩)
      by_cases w86_80 : od_lk T N i = 80
      · -- case 80
        refine lv_lookup (x := od_lk T N i) (off := 116) (tgt := 202) hx hb dX2_factor_86 (by decide) (by rw [w86_80]; rfl) (by decide) ?_
        have hTi : T i = 80 := hTi0.trans w86_80
        have hfi : f i = 80 := (hTf i hiN2).trans hTi
        refine oc_new (D := D) (C := RX12) (T := TX12) (N := 2) (ci := 10) (fs := [.int 0, .int 0]) hx hb hts in_X12 tyX12 tyX12_ok hown (hts _ q373) (hts _ q374) (hts _ q41) hK hP hD hS hA rfl (by decide +kernel) (by dsimp only [oc_rm]; omega) (by dsimp only [oc_rm]; omega) dX2_factor_202 (fun q_3 H hq_q_3 hz_q_3 ho_q_3 hP hD hS => ?_)
        have hP : va_P D oc_cl ([(r, .inr (1, [.ref tx, .int (nI N), .int (nI (i + 1)), .int (nI b), .int (nI dd)])), (q_3, .inr (10, [.int 0, .int 0]))] : va_W) H := hP
        have hD : va_D A ([(r, .inr (1, [.ref tx, .int (nI N), .int (nI (i + 1)), .int (nI b), .int (nI dd)])), (q_3, .inr (10, [.int 0, .int 0]))] : va_W) := hD
        have hPt : va_P D oc_cl ([(tx, .inl (d 2, 300, .inl T))] : va_W) H := od_keep hPt_0 hPt_n hS
        refine lv_dup hx hb dX2_factor_205 rfl ?_
        refine lv_iload_n hx hb dX2_factor_206 rfl (lv_at hl 1 rfl) ?_
        refine lv_aload_n hx hb dX2_factor_207 rfl (lv_at hl 2 rfl) ?_
        refine lv_iconst (v := 2) hx hb dX2_factor_208 (by decide) ?_
        refine lv_bipush (v := 15) hx hb dX2_factor_209 (by decide) ?_
        have hF_ : ∀ q, va_A ([(r, .inr (1, [.ref tx, .int (nI N), .int (nI (i + 1)), .int (nI b), .int (nI dd)]))] : va_W) (Array.size H) q → A q := va_free hD hS hA [0] rfl
        have hsz_ := hS.1
        refine oc_callRT (A1 := va_A ([(r, .inr (1, [.ref tx, .int (nI N), .int (nI (i + 1)), .int (nI b), .int (nI dd)]))] : va_W) (Array.size H)) hx hb hml hl.1 ⟨hok, hS, hN0⟩ (oc_iV (As := [.int 2, .int 15]) (rest := [.int ((nI i) - (nI b)), .ref q_3, .ref q_3]) hx hb hown (hts _ q360) (hts _ q362) (hts _ qs7) (oc_Sig.of (hts _ q363) (by decide +kernel : (parseMethodDescriptor "(II)I").map (fun d => d.parameters.length) = some 2)) (va_recv hK hP (ci := 1) (q0 := 0) rfl rfl) ⟨by decide, by decide⟩ dX2_factor_211 rfl) (oc_M.of (by decide +kernel) (hts _ q363)) (kX2_numberUpTo G r tx N (i + 1) (nI b) (nI dd) T hN3 (by omega) 2 15 (by omega) (by omega) (hP.sub [0] rfl) ((hD.sub [0] rfl rfl).self) (oc_N1 hD hN0 [0] rfl) hPt (od_dtr htr)) hF_ dX2_factor_211 (by dsimp only [oc_rm]; omega) (by simp only [oc_rm, List.map_cons, List.map_nil, List.sum_cons, List.sum_nil, Value.category]; omega) (by dsimp only [oc_rm]; omega) (by dsimp only [oc_rm]; omega) (fun v_ H locs k_ n_ hp_ hz_ hk_ hS => ?_) (fun a_ H locs k_ n_ hp_ hz_ hk_ hS => ?_)
        · -- returned
          obtain ⟨j, rfl, rfl, rfl, hP1, hD1, hj1, hj, hds, hnd, hgr⟩ := hp_
          obtain ⟨hP, hD⟩ := va_join (w1 := ([(r, .inr (1, [.ref tx, .int (nI N), .int (nI (i + 1 + j)), .int (nI b), .int (nI dd)]))] : va_W)) (wr := ([(q_3, .inr (10, [.int 0, .int 0]))] : va_W)) hP hD [0] [1] rfl rfl rfl (by decide) hk_ hF_ hP1 hD1
          have hP : va_P D oc_cl ([(q_3, .inr (10, [.int 0, .int 0])), (r, .inr (1, [.ref tx, .int (nI N), .int (nI (i + 1 + j)), .int (nI b), .int (nI dd)]))] : va_W) H := hP
          have hD : va_D A ([(q_3, .inr (10, [.int 0, .int 0])), (r, .inr (1, [.ref tx, .int (nI N), .int (nI (i + 1 + j)), .int (nI b), .int (nI dd)]))] : va_W) := hD
          have hPt : va_P D oc_cl ([(tx, .inl (d 2, 300, .inl T))] : va_W) H := od_keep hPt_0 hPt_n hS
          refine W.eq (g2 := F0 m 214 ls [.int (oc_nm T (i + 1) j), .int ((nI i) - (nI b)), .ref q_3, .ref q_3]) rfl ?_
          have hF_ : ∀ q, va_A ([(q_3, .inr (10, [.int 0, .int 0]))] : va_W) (Array.size H) q → A q := va_free hD hS hA [0] rfl
          refine oc_callP (A1 := va_A ([(q_3, .inr (10, [.int 0, .int 0]))] : va_W) (Array.size H)) hx hb hml hl.1 ⟨hok, hS, hN0⟩ (oc_iI (As := [.int ((nI i) - (nI b)), .int (oc_nm T (i + 1) j)]) (rest := [.ref q_3]) hx hb hown (hts _ q375) (hts _ q376) (hts _ q377) ⟨by decide, by decide, by decide, (by decide +kernel : (parseMethodDescriptor "(II)V").map (fun d => d.parameters.length) = some 2)⟩ dX2_factor_214 rfl) (oc_M.of (by decide +kernel) (hts _ q377)) (kX12_init G q_3 ((nI i) - (nI b)) (oc_nm T (i + 1) j) (hP.sub [0] rfl) ((hD.sub [0] rfl rfl).self) (oc_N1 hD hN0 [0] rfl)) hF_ dX2_factor_214 (by dsimp only [oc_rm]; omega) (by simp only [oc_rm, List.map_cons, List.map_nil, List.sum_cons, List.sum_nil, Value.category]; omega) (by dsimp only [oc_rm]; omega) (by dsimp only [oc_rm]; omega) (fun v_ H locs k_ n_ hp_ hz_ hk_ hS => ?_)
          obtain ⟨rfl, rfl, rfl, hP1, hD1⟩ := hp_
          obtain ⟨hP, hD⟩ := va_join (w1 := ([(q_3, .inr (10, [.int ((nI i) - (nI b)), .int (oc_nm T (i + 1) j)]))] : va_W)) (wr := ([(r, .inr (1, [.ref tx, .int (nI N), .int (nI (i + 1 + j)), .int (nI b), .int (nI dd)]))] : va_W)) hP hD [0] [1] rfl rfl rfl (by decide) hk_ hF_ hP1 hD1
          have hP : va_P D oc_cl ([(r, .inr (1, [.ref tx, .int (nI N), .int (nI (i + 1 + j)), .int (nI b), .int (nI dd)])), (q_3, .inr (10, [.int ((nI i) - (nI b)), .int (oc_nm T (i + 1) j)]))] : va_W) H := hP
          have hD : va_D A ([(r, .inr (1, [.ref tx, .int (nI N), .int (nI (i + 1 + j)), .int (nI b), .int (nI dd)])), (q_3, .inr (10, [.int ((nI i) - (nI b)), .int (oc_nm T (i + 1) j)]))] : va_W) := hD
          have hPt : va_P D oc_cl ([(tx, .inl (d 2, 300, .inl T))] : va_W) H := od_keep hPt_0 hPt_n hS
          refine W.eq (g2 := F0 m 217 ls [.ref q_3]) rfl ?_
          exact oc_aret hx hb hr (Or.inl ⟨_, rfl⟩) (Or.inr ⟨_, rfl⟩) hlocks hS dX2_factor_217 (Or.inl ⟨_, rfl, i + 1 + j, q_3, od_leaf i, rfl, by omega, od_dsN hds (by omega), hP.sub [0] rfl, hD.sub [0] rfl rfl, od_numB (y := 5) (M := 2) (Or.inr ⟨rfl, rfl, hTi⟩) rfl hAH hj1 hj hds hnd hgr, od_Fa.leaf ⟨(od_frs (by rw [hAe]; exact hD) (i := 1) (j := 0) rfl rfl (by decide)), Or.inr (Or.inr (Or.inr (Or.inr (Or.inr ⟨hfi, by rw [hnm i j hj1 hds hnd]; exact hP 1 _ rfl⟩))))⟩ ed, od_RSnum hTf (by rw [hfi]; decide) hds, by omega, by omega, trivial⟩)
        · -- threw
          obtain ⟨j, hk9, hn9, hsz9, hex9, hP1, hD1, hj, hds, hcase⟩ := hp_
          subst k_; subst n_
          obtain ⟨hP, hD⟩ := va_join (w1 := ([(r, .inr (1, [.ref tx, .int (nI N), .int (nI (i + 1 + j)), .int (nI b), .int (nI dd)]))] : va_W)) (wr := ([(q_3, .inr (10, [.int 0, .int 0]))] : va_W)) hP hD [0] [1] rfl rfl rfl (by decide) hk_ hF_ hP1 hD1
          have hP : va_P D oc_cl ([(q_3, .inr (10, [.int 0, .int 0])), (r, .inr (1, [.ref tx, .int (nI N), .int (nI (i + 1 + j)), .int (nI b), .int (nI dd)]))] : va_W) H := hP
          have hD : va_D A ([(q_3, .inr (10, [.int 0, .int 0])), (r, .inr (1, [.ref tx, .int (nI N), .int (nI (i + 1 + j)), .int (nI b), .int (nI dd)]))] : va_W) := hD
          have hPt : va_P D oc_cl ([(tx, .inl (d 2, 300, .inl T))] : va_W) H := od_keep hPt_0 hPt_n hS
          exact oc_xout hlocks (by rw [htab]; intro x9 hx9; cases hx9) hS (Or.inr ⟨_, rfl, ⟨i + 1 + j, nI dd, by omega, od_dsN hds (by omega), Nat.le_trans hsz_ hsz9, hex9, hP.sub [1] rfl, hD.sub [1] rfl rfl, od_numE (y := 5) (M := 2) (Or.inr ⟨rfl, rfl, hTi⟩) rfl hAH hj hds (od_dsN hds (by omega)) hcase, by omega, by omega⟩⟩)
      by_cases w86_83 : od_lk T N i = 83
      · -- case 83
        refine lv_lookup (x := od_lk T N i) (off := 90) (tgt := 176) hx hb dX2_factor_86 (by decide) (by rw [w86_83]; rfl) (by decide) ?_
        have hTi : T i = 83 := hTi0.trans w86_83
        have hfi : f i = 83 := (hTf i hiN2).trans hTi
        refine oc_new (D := D) (C := RX10) (T := TX10) (N := 2) (ci := 8) (fs := [.int 0, .int 0]) hx hb hts in_X10 tyX10 tyX10_ok hown (hts _ q347) (hts _ q348) (hts _ q39) hK hP hD hS hA rfl (by decide +kernel) (by dsimp only [oc_rm]; omega) (by dsimp only [oc_rm]; omega) dX2_factor_176 (fun q_4 H hq_q_4 hz_q_4 ho_q_4 hP hD hS => ?_)
        have hP : va_P D oc_cl ([(r, .inr (1, [.ref tx, .int (nI N), .int (nI (i + 1)), .int (nI b), .int (nI dd)])), (q_4, .inr (8, [.int 0, .int 0]))] : va_W) H := hP
        have hD : va_D A ([(r, .inr (1, [.ref tx, .int (nI N), .int (nI (i + 1)), .int (nI b), .int (nI dd)])), (q_4, .inr (8, [.int 0, .int 0]))] : va_W) := hD
        have hPt : va_P D oc_cl ([(tx, .inl (d 2, 300, .inl T))] : va_W) H := od_keep hPt_0 hPt_n hS
        refine lv_dup hx hb dX2_factor_179 rfl ?_
        refine lv_iload_n hx hb dX2_factor_180 rfl (lv_at hl 1 rfl) ?_
        refine lv_iconst (v := 1) hx hb dX2_factor_181 (by decide) ?_
        have hF_ : ∀ q, va_A ([(q_4, .inr (8, [.int 0, .int 0]))] : va_W) (Array.size H) q → A q := va_free hD hS hA [1] rfl
        refine oc_callP (A1 := va_A ([(q_4, .inr (8, [.int 0, .int 0]))] : va_W) (Array.size H)) hx hb hml hl.1 ⟨hok, hS, hN0⟩ (oc_iI (As := [.int ((nI i) - (nI b)), .int 1]) (rest := [.ref q_4]) hx hb hown (hts _ q349) (hts _ q350) (hts _ q351) ⟨by decide, by decide, by decide, (by decide +kernel : (parseMethodDescriptor "(II)V").map (fun d => d.parameters.length) = some 2)⟩ dX2_factor_182 rfl) (oc_M.of (by decide +kernel) (hts _ q351)) (kX10_init G q_4 ((nI i) - (nI b)) (1) (hP.sub [1] rfl) ((hD.sub [1] rfl rfl).self) (oc_N1 hD hN0 [1] rfl)) hF_ dX2_factor_182 (by dsimp only [oc_rm]; omega) (by simp only [oc_rm, List.map_cons, List.map_nil, List.sum_cons, List.sum_nil, Value.category]; omega) (by dsimp only [oc_rm]; omega) (by dsimp only [oc_rm]; omega) (fun v_ H locs k_ n_ hp_ hz_ hk_ hS => ?_)
        obtain ⟨rfl, rfl, rfl, hP1, hD1⟩ := hp_
        obtain ⟨hP, hD⟩ := va_join (w1 := ([(q_4, .inr (8, [.int ((nI i) - (nI b)), .int 1]))] : va_W)) (wr := ([(r, .inr (1, [.ref tx, .int (nI N), .int (nI (i + 1)), .int (nI b), .int (nI dd)]))] : va_W)) hP hD [1] [0] rfl rfl rfl (by decide) hk_ hF_ hP1 hD1
        have hP : va_P D oc_cl ([(r, .inr (1, [.ref tx, .int (nI N), .int (nI (i + 1)), .int (nI b), .int (nI dd)])), (q_4, .inr (8, [.int ((nI i) - (nI b)), .int 1]))] : va_W) H := hP
        have hD : va_D A ([(r, .inr (1, [.ref tx, .int (nI N), .int (nI (i + 1)), .int (nI b), .int (nI dd)])), (q_4, .inr (8, [.int ((nI i) - (nI b)), .int 1]))] : va_W) := hD
        have hPt : va_P D oc_cl ([(tx, .inl (d 2, 300, .inl T))] : va_W) H := od_keep hPt_0 hPt_n hS
        refine W.eq (g2 := F0 m 185 ls [.ref q_4]) rfl ?_
        exact oc_aret hx hb hr (Or.inl ⟨_, rfl⟩) (Or.inr ⟨_, rfl⟩) hlocks hS dX2_factor_185 (Or.inl ⟨_, rfl, i + 1, q_4, od_leaf i, rfl, by omega, by omega, hP.sub [0] rfl, hD.sub [0] rfl rfl, od_a1f hAH (by rw [hTi]; decide), od_Fa.leaf ⟨(od_frs (by rw [hAe]; exact hD) (i := 1) (j := 0) rfl rfl (by decide)), Or.inr (Or.inr (Or.inr (Or.inl ⟨hfi, hP 1 _ rfl⟩)))⟩ ed, od_RS1 (by rw [hfi]; decide), by omega, by omega, trivial⟩)
      by_cases w86_86 : od_lk T N i = 86
      · -- case 86
        refine lv_lookup (x := od_lk T N i) (off := 100) (tgt := 186) hx hb dX2_factor_86 (by decide) (by rw [w86_86]; rfl) (by decide) ?_
        have hTi : T i = 86 := hTi0.trans w86_86
        have hfi : f i = 86 := (hTf i hiN2).trans hTi
        refine oc_new (D := D) (C := RX11) (T := TX11) (N := 2) (ci := 9) (fs := [.int 0, .int 0]) hx hb hts in_X11 tyX11 tyX11_ok hown (hts _ q358) (hts _ q359) (hts _ q40) hK hP hD hS hA rfl (by decide +kernel) (by dsimp only [oc_rm]; omega) (by dsimp only [oc_rm]; omega) dX2_factor_186 (fun q_5 H hq_q_5 hz_q_5 ho_q_5 hP hD hS => ?_)
        have hP : va_P D oc_cl ([(r, .inr (1, [.ref tx, .int (nI N), .int (nI (i + 1)), .int (nI b), .int (nI dd)])), (q_5, .inr (9, [.int 0, .int 0]))] : va_W) H := hP
        have hD : va_D A ([(r, .inr (1, [.ref tx, .int (nI N), .int (nI (i + 1)), .int (nI b), .int (nI dd)])), (q_5, .inr (9, [.int 0, .int 0]))] : va_W) := hD
        have hPt : va_P D oc_cl ([(tx, .inl (d 2, 300, .inl T))] : va_W) H := od_keep hPt_0 hPt_n hS
        refine lv_dup hx hb dX2_factor_189 rfl ?_
        refine lv_iload_n hx hb dX2_factor_190 rfl (lv_at hl 1 rfl) ?_
        refine lv_aload_n hx hb dX2_factor_191 rfl (lv_at hl 2 rfl) ?_
        refine lv_iconst (v := 3) hx hb dX2_factor_192 (by decide) ?_
        refine lv_bipush (v := 100) hx hb dX2_factor_193 (by decide) ?_
        have hF_ : ∀ q, va_A ([(r, .inr (1, [.ref tx, .int (nI N), .int (nI (i + 1)), .int (nI b), .int (nI dd)]))] : va_W) (Array.size H) q → A q := va_free hD hS hA [0] rfl
        have hsz_ := hS.1
        refine oc_callRT (A1 := va_A ([(r, .inr (1, [.ref tx, .int (nI N), .int (nI (i + 1)), .int (nI b), .int (nI dd)]))] : va_W) (Array.size H)) hx hb hml hl.1 ⟨hok, hS, hN0⟩ (oc_iV (As := [.int 3, .int 100]) (rest := [.int ((nI i) - (nI b)), .ref q_5, .ref q_5]) hx hb hown (hts _ q360) (hts _ q362) (hts _ qs7) (oc_Sig.of (hts _ q363) (by decide +kernel : (parseMethodDescriptor "(II)I").map (fun d => d.parameters.length) = some 2)) (va_recv hK hP (ci := 1) (q0 := 0) rfl rfl) ⟨by decide, by decide⟩ dX2_factor_195 rfl) (oc_M.of (by decide +kernel) (hts _ q363)) (kX2_numberUpTo G r tx N (i + 1) (nI b) (nI dd) T hN3 (by omega) 3 100 (by omega) (by omega) (hP.sub [0] rfl) ((hD.sub [0] rfl rfl).self) (oc_N1 hD hN0 [0] rfl) hPt (od_dtr htr)) hF_ dX2_factor_195 (by dsimp only [oc_rm]; omega) (by simp only [oc_rm, List.map_cons, List.map_nil, List.sum_cons, List.sum_nil, Value.category]; omega) (by dsimp only [oc_rm]; omega) (by dsimp only [oc_rm]; omega) (fun v_ H locs k_ n_ hp_ hz_ hk_ hS => ?_) (fun a_ H locs k_ n_ hp_ hz_ hk_ hS => ?_)
        · -- returned
          obtain ⟨j, rfl, rfl, rfl, hP1, hD1, hj1, hj, hds, hnd, hgr⟩ := hp_
          obtain ⟨hP, hD⟩ := va_join (w1 := ([(r, .inr (1, [.ref tx, .int (nI N), .int (nI (i + 1 + j)), .int (nI b), .int (nI dd)]))] : va_W)) (wr := ([(q_5, .inr (9, [.int 0, .int 0]))] : va_W)) hP hD [0] [1] rfl rfl rfl (by decide) hk_ hF_ hP1 hD1
          have hP : va_P D oc_cl ([(q_5, .inr (9, [.int 0, .int 0])), (r, .inr (1, [.ref tx, .int (nI N), .int (nI (i + 1 + j)), .int (nI b), .int (nI dd)]))] : va_W) H := hP
          have hD : va_D A ([(q_5, .inr (9, [.int 0, .int 0])), (r, .inr (1, [.ref tx, .int (nI N), .int (nI (i + 1 + j)), .int (nI b), .int (nI dd)]))] : va_W) := hD
          have hPt : va_P D oc_cl ([(tx, .inl (d 2, 300, .inl T))] : va_W) H := od_keep hPt_0 hPt_n hS
          refine W.eq (g2 := F0 m 198 ls [.int (oc_nm T (i + 1) j), .int ((nI i) - (nI b)), .ref q_5, .ref q_5]) rfl ?_
          have hF_ : ∀ q, va_A ([(q_5, .inr (9, [.int 0, .int 0]))] : va_W) (Array.size H) q → A q := va_free hD hS hA [0] rfl
          refine oc_callP (A1 := va_A ([(q_5, .inr (9, [.int 0, .int 0]))] : va_W) (Array.size H)) hx hb hml hl.1 ⟨hok, hS, hN0⟩ (oc_iI (As := [.int ((nI i) - (nI b)), .int (oc_nm T (i + 1) j)]) (rest := [.ref q_5]) hx hb hown (hts _ q364) (hts _ q365) (hts _ q366) ⟨by decide, by decide, by decide, (by decide +kernel : (parseMethodDescriptor "(II)V").map (fun d => d.parameters.length) = some 2)⟩ dX2_factor_198 rfl) (oc_M.of (by decide +kernel) (hts _ q366)) (kX11_init G q_5 ((nI i) - (nI b)) (oc_nm T (i + 1) j) (hP.sub [0] rfl) ((hD.sub [0] rfl rfl).self) (oc_N1 hD hN0 [0] rfl)) hF_ dX2_factor_198 (by dsimp only [oc_rm]; omega) (by simp only [oc_rm, List.map_cons, List.map_nil, List.sum_cons, List.sum_nil, Value.category]; omega) (by dsimp only [oc_rm]; omega) (by dsimp only [oc_rm]; omega) (fun v_ H locs k_ n_ hp_ hz_ hk_ hS => ?_)
          obtain ⟨rfl, rfl, rfl, hP1, hD1⟩ := hp_
          obtain ⟨hP, hD⟩ := va_join (w1 := ([(q_5, .inr (9, [.int ((nI i) - (nI b)), .int (oc_nm T (i + 1) j)]))] : va_W)) (wr := ([(r, .inr (1, [.ref tx, .int (nI N), .int (nI (i + 1 + j)), .int (nI b), .int (nI dd)]))] : va_W)) hP hD [0] [1] rfl rfl rfl (by decide) hk_ hF_ hP1 hD1
          have hP : va_P D oc_cl ([(r, .inr (1, [.ref tx, .int (nI N), .int (nI (i + 1 + j)), .int (nI b), .int (nI dd)])), (q_5, .inr (9, [.int ((nI i) - (nI b)), .int (oc_nm T (i + 1) j)]))] : va_W) H := hP
          have hD : va_D A ([(r, .inr (1, [.ref tx, .int (nI N), .int (nI (i + 1 + j)), .int (nI b), .int (nI dd)])), (q_5, .inr (9, [.int ((nI i) - (nI b)), .int (oc_nm T (i + 1) j)]))] : va_W) := hD
          have hPt : va_P D oc_cl ([(tx, .inl (d 2, 300, .inl T))] : va_W) H := od_keep hPt_0 hPt_n hS
          refine W.eq (g2 := F0 m 201 ls [.ref q_5]) rfl ?_
          exact oc_aret hx hb hr (Or.inl ⟨_, rfl⟩) (Or.inr ⟨_, rfl⟩) hlocks hS dX2_factor_201 (Or.inl ⟨_, rfl, i + 1 + j, q_5, od_leaf i, rfl, by omega, od_dsN hds (by omega), hP.sub [0] rfl, hD.sub [0] rfl rfl, od_numB (y := 4) (M := 3) (Or.inl ⟨rfl, rfl, hTi⟩) rfl hAH hj1 hj hds hnd hgr, od_Fa.leaf ⟨(od_frs (by rw [hAe]; exact hD) (i := 1) (j := 0) rfl rfl (by decide)), Or.inr (Or.inr (Or.inr (Or.inr (Or.inl ⟨hfi, by rw [hnm i j hj1 hds hnd]; exact hP 1 _ rfl⟩))))⟩ ed, od_RSnum hTf (by rw [hfi]; decide) hds, by omega, by omega, trivial⟩)
        · -- threw
          obtain ⟨j, hk9, hn9, hsz9, hex9, hP1, hD1, hj, hds, hcase⟩ := hp_
          subst k_; subst n_
          obtain ⟨hP, hD⟩ := va_join (w1 := ([(r, .inr (1, [.ref tx, .int (nI N), .int (nI (i + 1 + j)), .int (nI b), .int (nI dd)]))] : va_W)) (wr := ([(q_5, .inr (9, [.int 0, .int 0]))] : va_W)) hP hD [0] [1] rfl rfl rfl (by decide) hk_ hF_ hP1 hD1
          have hP : va_P D oc_cl ([(q_5, .inr (9, [.int 0, .int 0])), (r, .inr (1, [.ref tx, .int (nI N), .int (nI (i + 1 + j)), .int (nI b), .int (nI dd)]))] : va_W) H := hP
          have hD : va_D A ([(q_5, .inr (9, [.int 0, .int 0])), (r, .inr (1, [.ref tx, .int (nI N), .int (nI (i + 1 + j)), .int (nI b), .int (nI dd)]))] : va_W) := hD
          have hPt : va_P D oc_cl ([(tx, .inl (d 2, 300, .inl T))] : va_W) H := od_keep hPt_0 hPt_n hS
          exact oc_xout hlocks (by rw [htab]; intro x9 hx9; cases hx9) hS (Or.inr ⟨_, rfl, ⟨i + 1 + j, nI dd, by omega, od_dsN hds (by omega), Nat.le_trans hsz_ hsz9, hex9, hP.sub [1] rfl, hD.sub [1] rfl rfl, od_numE (y := 4) (M := 3) (Or.inl ⟨rfl, rfl, hTi⟩) rfl hAH hj hds (od_dsN hds (by omega)) hcase, by omega, by omega⟩⟩)
      by_cases w86_87 : od_lk T N i = 87
      · -- case 87
        refine lv_lookup (x := od_lk T N i) (off := 58) (tgt := 144) hx hb dX2_factor_86 (by decide) (by rw [w86_87]; rfl) (by decide) ?_
        have hTi : T i = 87 := hTi0.trans w86_87
        have hfi : f i = 87 := (hTf i hiN2).trans hTi
        refine oc_new (D := D) (C := RX9) (T := TX9) (N := 1) (ci := 7) (fs := [.int 0]) hx hb hts in_X9 tyX9 tyX9_ok hown (hts _ q334) (hts _ q335) (hts _ q38) hK hP hD hS hA rfl (by decide +kernel) (by dsimp only [oc_rm]; omega) (by dsimp only [oc_rm]; omega) dX2_factor_144 (fun q_6 H hq_q_6 hz_q_6 ho_q_6 hP hD hS => ?_)
        have hP : va_P D oc_cl ([(r, .inr (1, [.ref tx, .int (nI N), .int (nI (i + 1)), .int (nI b), .int (nI dd)])), (q_6, .inr (7, [.int 0]))] : va_W) H := hP
        have hD : va_D A ([(r, .inr (1, [.ref tx, .int (nI N), .int (nI (i + 1)), .int (nI b), .int (nI dd)])), (q_6, .inr (7, [.int 0]))] : va_W) := hD
        have hPt : va_P D oc_cl ([(tx, .inl (d 2, 300, .inl T))] : va_W) H := od_keep hPt_0 hPt_n hS
        refine lv_dup hx hb dX2_factor_147 rfl ?_
        refine lv_iload_n hx hb dX2_factor_148 rfl (lv_at hl 1 rfl) ?_
        have hF_ : ∀ q, va_A ([(q_6, .inr (7, [.int 0]))] : va_W) (Array.size H) q → A q := va_free hD hS hA [1] rfl
        refine oc_callP (A1 := va_A ([(q_6, .inr (7, [.int 0]))] : va_W) (Array.size H)) hx hb hml hl.1 ⟨hok, hS, hN0⟩ (oc_iI (As := [.int ((nI i) - (nI b))]) (rest := [.ref q_6]) hx hb hown (hts _ q336) (hts _ q337) (hts _ q338) ⟨by decide, by decide, by decide, (by decide +kernel : (parseMethodDescriptor "(I)V").map (fun d => d.parameters.length) = some 1)⟩ dX2_factor_149 rfl) (oc_M.of (by decide +kernel) (hts _ q338)) (kX9_init G q_6 ((nI i) - (nI b)) (hP.sub [1] rfl) ((hD.sub [1] rfl rfl).self) (oc_N1 hD hN0 [1] rfl)) hF_ dX2_factor_149 (by dsimp only [oc_rm]; omega) (by simp only [oc_rm, List.map_cons, List.map_nil, List.sum_cons, List.sum_nil, Value.category]; omega) (by dsimp only [oc_rm]; omega) (by dsimp only [oc_rm]; omega) (fun v_ H locs k_ n_ hp_ hz_ hk_ hS => ?_)
        obtain ⟨rfl, rfl, rfl, hP1, hD1⟩ := hp_
        obtain ⟨hP, hD⟩ := va_join (w1 := ([(q_6, .inr (7, [.int ((nI i) - (nI b))]))] : va_W)) (wr := ([(r, .inr (1, [.ref tx, .int (nI N), .int (nI (i + 1)), .int (nI b), .int (nI dd)]))] : va_W)) hP hD [1] [0] rfl rfl rfl (by decide) hk_ hF_ hP1 hD1
        have hP : va_P D oc_cl ([(r, .inr (1, [.ref tx, .int (nI N), .int (nI (i + 1)), .int (nI b), .int (nI dd)])), (q_6, .inr (7, [.int ((nI i) - (nI b))]))] : va_W) H := hP
        have hD : va_D A ([(r, .inr (1, [.ref tx, .int (nI N), .int (nI (i + 1)), .int (nI b), .int (nI dd)])), (q_6, .inr (7, [.int ((nI i) - (nI b))]))] : va_W) := hD
        have hPt : va_P D oc_cl ([(tx, .inl (d 2, 300, .inl T))] : va_W) H := od_keep hPt_0 hPt_n hS
        refine W.eq (g2 := F0 m 152 ls [.ref q_6]) rfl ?_
        exact oc_aret hx hb hr (Or.inl ⟨_, rfl⟩) (Or.inr ⟨_, rfl⟩) hlocks hS dX2_factor_152 (Or.inl ⟨_, rfl, i + 1, q_6, od_leaf i, rfl, by omega, by omega, hP.sub [0] rfl, hD.sub [0] rfl rfl, od_a1f hAH (by rw [hTi]; decide), od_Fa.leaf ⟨(od_frs (by rw [hAe]; exact hD) (i := 1) (j := 0) rfl rfl (by decide)), Or.inl ⟨hfi, hP 1 _ rfl⟩⟩ ed, od_RS1 (by rw [hfi]; decide), by omega, by omega, trivial⟩)
      refine lv_lookup (x := od_lk T N i) (off := 132) (tgt := 218) hx hb dX2_factor_86 (by decide) (by exact (lv_osw (k := 67) (a := 67) w86_67 rfl).trans ((lv_osw (k := 72) (a := 72) w86_72 rfl).trans ((lv_osw (k := 80) (a := 80) w86_80 rfl).trans ((lv_osw (k := 83) (a := 83) w86_83 rfl).trans ((lv_osw (k := 86) (a := 86) w86_86 rfl).trans ((lv_osw (k := 87) (a := 87) w86_87 rfl).trans (rfl))))))) (by decide) ?_
      obtain ⟨h40, he8⟩ := od_isf2 hb_72 w86_87 w86_67 w86_72 w86_83 w86_86 w86_80
      have hTi : T i = 40 := hTi0.trans h40
      obtain ⟨e9, rfl, hRul9⟩ := hRul he8
      refine lv_aload_n hx hb dX2_factor_218 rfl (lv_at hl 2 rfl) ?_
      refine lv_dup hx hb dX2_factor_219 rfl ?_
      refine va_get (D := D) (ci := 1) (v := .int (nI dd)) (C := RX2) (T := TX2) (N := 5) hx hb hts in_X2 hown hK hP 0 rfl rfl 4 (by decide) (hts _ q76) (fun _ h9 => h9) rfl dX2_factor_220 ?_
      refine lv_iconst (v := 1) hx hb dX2_factor_223 (by decide) ?_
      refine lv_iadd hx hb dX2_factor_224 ?_
      refine oc_topi (x := (nI dd) + 1) (y := nI (dd + 1)) (nI_1 dd) ?_
      refine va_put (D := D) (ci := 1) (v := .int (nI (dd + 1))) (ty := .int) (C := RX2) (T := TX2) (N := 5) hx hb hts in_X2 tyX2 tyX2_ok nmX2 hown hK hP hD hS 0 rfl rfl 4 (by decide) (hts _ q76) (fun _ h9 => h9) rfl (by decide +kernel) rfl rfl (Nat.le_of_ble_eq_true rfl) dX2_factor_225 (fun H locs hP hD hS => ?_)
      have hP : va_P D oc_cl ([(r, .inr (1, [.ref tx, .int (nI N), .int (nI (i + 1)), .int (nI b), .int (nI (dd + 1))]))] : va_W) H := hP
      have hD : va_D A ([(r, .inr (1, [.ref tx, .int (nI N), .int (nI (i + 1)), .int (nI b), .int (nI (dd + 1))]))] : va_W) := hD
      have hPt : va_P D oc_cl ([(tx, .inl (d 2, 300, .inl T))] : va_W) H := od_keep hPt_0 hPt_n hS
      refine lv_aload_n hx hb dX2_factor_228 rfl (lv_at hl 2 rfl) ?_
      have hF_ : ∀ q, va_A ([(r, .inr (1, [.ref tx, .int (nI N), .int (nI (i + 1)), .int (nI b), .int (nI (dd + 1))]))] : va_W) (Array.size H) q → A q := va_free hD hS hA [0] rfl
      have hsz_ := hS.1
      refine oc_callRT (A1 := va_A ([(r, .inr (1, [.ref tx, .int (nI N), .int (nI (i + 1)), .int (nI b), .int (nI (dd + 1))]))] : va_W) (Array.size H)) hx hb hml hl.1 ⟨hok, hS, hN0⟩ (oc_iS (As := [.ref r]) (rest := []) hx hb hown (hts _ q299) (hts _ q300) (hts _ q25) (hts _ q301) ⟨by decide, by decide, (by decide +kernel : (parseMethodDescriptor "(LOriginRules$Reader;)LOriginRules$Node;").map (fun d => d.parameters.length) = some 1)⟩ dX2_factor_229 rfl) (oc_M.of (by decide +kernel) (hts _ q301)) (hRul9 H (i + 1) (od_open hAH hTi he8) (by omega) hP (hPt 0 _ rfl)) hF_ dX2_factor_229 (by dsimp only [oc_rm]; omega) (by simp only [oc_rm, List.map_cons, List.map_nil, List.sum_cons, List.sum_nil, Value.category]; omega) (by dsimp only [oc_rm]; omega) (by dsimp only [oc_rm]; omega) (fun v_ H locs k_ n_ hp_ hz_ hk_ hS => ?_) (fun a_ H locs k_ n_ hp_ hz_ hk_ hS => ?_)
      · -- a rule
        obtain ⟨j2, a2, S2, rfl, hj2a, hj2b, hP1, hD1, hBH2, hNd2, hRS2, hck2, hcn2, hX2⟩ := hp_
        have hP : va_P D oc_cl ([(r, .inr (1, [.ref tx, .int (nI N), .int (nI j2), .int (nI b), .int (nI (dd + 1))]))] : va_W) H := hP1
        have hD : va_D A ([(r, .inr (1, [.ref tx, .int (nI N), .int (nI j2), .int (nI b), .int (nI (dd + 1))]))] : va_W) := oc_Dcong hD rfl
        have hPt : va_P D oc_cl ([(tx, .inl (d 2, 300, .inl T))] : va_W) H := od_keep hPt_0 hPt_n hS
        have hNd : od_dR D d E0 f b nm e9 (fun z => Array.size s.heap ≤ z) H a2 S2 := od_NdR.2 _ _ _ _ _ _ hNd2 (fun z h _ => Nat.le_trans hsz_ h) (fun z _ _ => rfl)
        refine W.eq (g2 := F0 m 232 ls [.ref a2]) rfl ?_
        refine lv_astore_n (lv' := [(3, .ref a2), (2, .int (od_lk T N i)), (1, .int ((nI i) - (nI b))), (0, .ref r)]) hx hb dX2_factor_232 rfl hl (by decide) rfl (fun ls hl => ?_)
        refine lv_aload_n hx hb dX2_factor_233 rfl (lv_at hl 3 rfl) ?_
        refine lv_bipush (v := 41) hx hb dX2_factor_234 (by decide) ?_
        have hF_ : ∀ q, va_A ([(r, .inr (1, [.ref tx, .int (nI N), .int (nI j2), .int (nI b), .int (nI (dd + 1))]))] : va_W) (Array.size H) q → A q := va_free hD hS hA [0] rfl
        have hsz_ := hS.1
        refine oc_callRT (A1 := va_A ([(r, .inr (1, [.ref tx, .int (nI N), .int (nI j2), .int (nI b), .int (nI (dd + 1))]))] : va_W) (Array.size H)) hx hb hml hl.1 ⟨hok, hS, hN0⟩ (oc_iV (As := [.int 41]) (rest := []) hx hb hown (hts _ q295) (hts _ q297) (hts _ qs6) (oc_Sig.of (hts _ q298) (by decide +kernel : (parseMethodDescriptor "(I)V").map (fun d => d.parameters.length) = some 1)) (va_recv hK hP (ci := 1) (q0 := 0) rfl rfl) ⟨by decide, by decide⟩ dX2_factor_236 rfl) (oc_M.of (by decide +kernel) (hts _ q298)) (kX2_take G r tx N j2 (nI b) (nI (dd + 1)) T hN3 hj2b 41 (hP.sub [0] rfl) ((hD.sub [0] rfl rfl).self) (oc_N1 hD hN0 [0] rfl) hPt (od_dtr htr)) hF_ dX2_factor_236 (by dsimp only [oc_rm]; omega) (by simp only [oc_rm, List.map_cons, List.map_nil, List.sum_cons, List.sum_nil, Value.category]; omega) (by dsimp only [oc_rm]; omega) (by dsimp only [oc_rm]; omega) (fun v_ H locs k_ n_ hp_ hz_ hk_ hS => ?_) (fun a_ H locs k_ n_ hp_ hz_ hk_ hS => ?_)
        · -- returned
          obtain ⟨rfl, rfl, rfl, hP1, hD1, hlk⟩ := hp_
          have hNd := od_NdR.2 _ _ _ _ _ _ hNd (fun z h _ => h) (fun z h1 h2 => hk_ z h2 (fun h3 => od_nr (by omega) h2 h3))
          obtain ⟨hP, hD⟩ := va_join (w1 := ([(r, .inr (1, [.ref tx, .int (nI N), .int (nI (j2 + 1)), .int (nI b), .int (nI (dd + 1))]))] : va_W)) (wr := ([] : va_W)) hP hD [0] [] rfl rfl rfl (by decide) hk_ hF_ hP1 hD1
          have hP : va_P D oc_cl ([(r, .inr (1, [.ref tx, .int (nI N), .int (nI (j2 + 1)), .int (nI b), .int (nI (dd + 1))]))] : va_W) H := hP
          have hD : va_D A ([(r, .inr (1, [.ref tx, .int (nI N), .int (nI (j2 + 1)), .int (nI b), .int (nI (dd + 1))]))] : va_W) := hD
          have hPt : va_P D oc_cl ([(tx, .inl (d 2, 300, .inl T))] : va_W) H := od_keep hPt_0 hPt_n hS
          refine W.eq (g2 := F0 m 239 ls []) rfl ?_
          refine lv_aload_n hx hb dX2_factor_239 rfl (lv_at hl 3 rfl) ?_
          refine lv_dup hx hb dX2_factor_240 rfl ?_
          refine va_get (D := D) (ci := 1) (v := .int (nI (dd + 1))) (C := RX2) (T := TX2) (N := 5) hx hb hts in_X2 hown hK hP 0 rfl rfl 4 (by decide) (hts _ q76) (fun _ h9 => h9) rfl dX2_factor_241 ?_
          refine lv_iconst (v := 1) hx hb dX2_factor_244 (by decide) ?_
          refine lv_isub hx hb dX2_factor_245 ?_
          refine oc_topi (x := (nI (dd + 1)) - 1) (y := nI dd) (by rw [show (1 : Int32) = nI 1 from rfl, pk_sub (by omega), show dd + 1 - 1 = dd by omega]) ?_
          refine oc_put (D := D) (ci := 1) (v := .int (nI dd)) (ty := .int) (C := RX2) (T := TX2) (N := 5) hx hb hts in_X2 tyX2 tyX2_ok nmX2 hown hK hP hD hS 0 rfl rfl 4 (by decide) (hts _ q76) (fun _ h9 => h9) rfl (by decide +kernel) rfl rfl (Nat.le_of_ble_eq_true rfl) dX2_factor_246 (fun H locs hz2 ho2 hP hD hS => ?_)
          have hP : va_P D oc_cl ([(r, .inr (1, [.ref tx, .int (nI N), .int (nI (j2 + 1)), .int (nI b), .int (nI dd)]))] : va_W) H := hP
          have hD : va_D A ([(r, .inr (1, [.ref tx, .int (nI N), .int (nI (j2 + 1)), .int (nI b), .int (nI dd)]))] : va_W) := hD
          have hPt : va_P D oc_cl ([(tx, .inl (d 2, 300, .inl T))] : va_W) H := od_keep hPt_0 hPt_n hS
          have hNd := od_NdR.2 _ _ _ _ _ _ hNd (fun z h _ => h) (fun z h1 h2 => ho2 z (by omega))
          obtain ⟨hj2N, hTj2⟩ := od_lki hlk (by decide)
          refine lv_aload_n hx hb dX2_factor_249 rfl (lv_at hl 0 rfl) ?_
          exact oc_aret hx hb hr (Or.inl ⟨_, rfl⟩) (Or.inr ⟨_, rfl⟩) hlocks hS dX2_factor_250 (Or.inl ⟨_, rfl, j2 + 1, a2, S2, rfl, by omega, by omega, hP.sub [0] rfl, hD.sub [0] rfl rfl, od_close hBH2 (by omega) (by omega) hTj2, Or.inr hNd, od_RSbr hRS2 he8 (by rw [hTf _ hiN2]; exact hTi) (by rw [hTf _ (by omega)]; exact hTj2), by omega, by omega, trivial⟩)
        · -- threw
          obtain ⟨hk9, hn9, hsz9, hex9, hP1, hD1, hlk⟩ := hp_
          subst k_; subst n_
          obtain ⟨hP, hD⟩ := va_join (w1 := ([(r, .inr (1, [.ref tx, .int (nI N), .int (nI j2), .int (nI b), .int (nI (dd + 1))]))] : va_W)) (wr := ([] : va_W)) hP hD [0] [] rfl rfl rfl (by decide) hk_ hF_ hP1 hD1
          have hP : va_P D oc_cl ([(r, .inr (1, [.ref tx, .int (nI N), .int (nI j2), .int (nI b), .int (nI (dd + 1))]))] : va_W) H := hP
          have hD : va_D A ([(r, .inr (1, [.ref tx, .int (nI N), .int (nI j2), .int (nI b), .int (nI (dd + 1))]))] : va_W) := hD
          have hPt : va_P D oc_cl ([(tx, .inl (d 2, 300, .inl T))] : va_W) H := od_keep hPt_0 hPt_n hS
          exact oc_xout hlocks (by rw [htab]; intro x9 hx9; cases hx9) hS (Or.inr ⟨_, rfl, ⟨j2, nI (dd + 1), by omega, hj2b, by omega, hex9, hP.sub [0] rfl, hD.sub [0] rfl rfl, od_closeE hBH2 hj2b (by omega) hX2.1 hX2.2 hlk, by omega, by omega⟩⟩)
      · -- wrong
        obtain ⟨pp, de2, hpp1, hpp2, hsz9, hex9, hP1, hD1, hER, hck2, hcn2⟩ := hp_
        have hP : va_P D oc_cl ([(r, .inr (1, [.ref tx, .int (nI N), .int (nI pp), .int (nI b), .int de2]))] : va_W) H := hP1
        have hD : va_D A ([(r, .inr (1, [.ref tx, .int (nI N), .int (nI pp), .int (nI b), .int de2]))] : va_W) := oc_Dcong hD rfl
        have hPt : va_P D oc_cl ([(tx, .inl (d 2, 300, .inl T))] : va_W) H := od_keep hPt_0 hPt_n hS
        exact oc_xout hlocks (by rw [htab]; intro x9 hx9; cases hx9) hS (Or.inr ⟨_, rfl, pp, de2, by omega, hpp2, by omega, hex9, hP, hD, hER, by omega, by omega⟩)
    ·
      rw [Bool.not_eq_true] at hb_72
      refine oc_topi (x := oc_b (od_isf (od_lk T N i) dd)) (y := 0) (by simp [oc_b, hb_72]) ?_
      refine oc_callT hx hb hml hl.1 ⟨hok, hS, hN0⟩ (oc_iV (As := [.int 0]) (rest := []) hx hb hown (hts _ q226) (hts _ q228) (hts _ qs4) (oc_Sig.of (hts _ q229) (by decide +kernel : (parseMethodDescriptor "(Z)V").map (fun d => d.parameters.length) = some 1)) (va_recv hK hP (ci := 1) (q0 := 0) rfl rfl) ⟨by decide, by decide⟩ dX2_factor_72 rfl) (oc_M.of (by decide +kernel) (hts _ q229)) (kX2_need0 G r) (fun q z => hA q (Nat.le_trans hS.1 z)) (fun o H1 k n h => by obtain ⟨a, e, -⟩ := h; exact ⟨a, e⟩) dX2_factor_72 (by dsimp only [oc_rm]; omega) (by simp only [oc_rm, List.map_cons, List.map_nil, List.sum_cons, List.sum_nil, Value.category]; omega) (by dsimp only [oc_rm]; omega) (by dsimp only [oc_rm]; omega) (fun a_ H locs k_ n_ hp_ hz_ hk_ hS => ?_)
      obtain ⟨a9, e9, hk9, hn9, hsz9, hex9⟩ := hp_
      cases e9
      subst k_; subst n_
      have hP : va_P D oc_cl ([(r, .inr (1, [.ref tx, .int (nI N), .int (nI i), .int (nI b), .int (nI dd)]))] : va_W) H := hP.kept (fun k q h => hk_ q.1 (hP k q h).lt (Nat.not_le.mpr (hP k q h).lt))
      have hPt : va_P D oc_cl ([(tx, .inl (d 2, 300, .inl T))] : va_W) H := od_keep hPt_0 hPt_n hS
      exact oc_xout hlocks (by rw [htab]; intro x9 hx9; cases hx9) hS (Or.inr ⟨_, rfl, ⟨i, nI dd, by omega, by omega, hsz9, hex9, hP.sub [0] rfl, hD.sub [0] rfl rfl, od_a0 hAH hiN (by omega) (od_isf0 hb_72), by omega, by omega⟩⟩)
  · -- up to 72
    refine lv_iload_n hx hb dX2_factor_16 rfl (lv_at hl 0 rfl) ?_
    refine lv_bipush (v := 87) hx hb dX2_factor_17 (by decide) ?_
    refine lv_icmp_eq (x := od_lk T N i) (y := 87) (tgt := 67) hx hb dX2_factor_19 (by decide) (fun c19 => ?_) (fun c19 => ?_)
    · -- taken
      refine lv_iconst (v := 1) hx hb dX2_factor_67 (by decide) ?_
      refine lv_goto (tgt := 72) hx hb dX2_factor_68 (by decide) ?_
      exact oc_topi (x := 1) (by simp [od_isf, oc_b, *]) K72
    · -- not taken
      refine lv_iload_n hx hb dX2_factor_22 rfl (lv_at hl 0 rfl) ?_
      refine lv_bipush (v := 67) hx hb dX2_factor_23 (by decide) ?_
      refine lv_icmp_eq (x := od_lk T N i) (y := 67) (tgt := 67) hx hb dX2_factor_25 (by decide) (fun c25 => ?_) (fun c25 => ?_)
      · -- taken
        refine lv_iconst (v := 1) hx hb dX2_factor_67 (by decide) ?_
        refine lv_goto (tgt := 72) hx hb dX2_factor_68 (by decide) ?_
        exact oc_topi (x := 1) (by simp [od_isf, oc_b, *]) K72
      · -- not taken
        refine lv_iload_n hx hb dX2_factor_28 rfl (lv_at hl 0 rfl) ?_
        refine lv_bipush (v := 72) hx hb dX2_factor_29 (by decide) ?_
        refine lv_icmp_eq (x := od_lk T N i) (y := 72) (tgt := 67) hx hb dX2_factor_31 (by decide) (fun c31 => ?_) (fun c31 => ?_)
        · -- taken
          refine lv_iconst (v := 1) hx hb dX2_factor_67 (by decide) ?_
          refine lv_goto (tgt := 72) hx hb dX2_factor_68 (by decide) ?_
          exact oc_topi (x := 1) (by simp [od_isf, oc_b, *]) K72
        · -- not taken
          refine lv_iload_n hx hb dX2_factor_34 rfl (lv_at hl 0 rfl) ?_
          refine lv_bipush (v := 83) hx hb dX2_factor_35 (by decide) ?_
          refine lv_icmp_eq (x := od_lk T N i) (y := 83) (tgt := 67) hx hb dX2_factor_37 (by decide) (fun c37 => ?_) (fun c37 => ?_)
          · -- taken
            refine lv_iconst (v := 1) hx hb dX2_factor_67 (by decide) ?_
            refine lv_goto (tgt := 72) hx hb dX2_factor_68 (by decide) ?_
            exact oc_topi (x := 1) (by simp [od_isf, oc_b, *]) K72
          · -- not taken
            refine lv_iload_n hx hb dX2_factor_40 rfl (lv_at hl 0 rfl) ?_
            refine lv_bipush (v := 86) hx hb dX2_factor_41 (by decide) ?_
            refine lv_icmp_eq (x := od_lk T N i) (y := 86) (tgt := 67) hx hb dX2_factor_43 (by decide) (fun c43 => ?_) (fun c43 => ?_)
            · -- taken
              refine lv_iconst (v := 1) hx hb dX2_factor_67 (by decide) ?_
              refine lv_goto (tgt := 72) hx hb dX2_factor_68 (by decide) ?_
              exact oc_topi (x := 1) (by simp [od_isf, oc_b, *]) K72
            · -- not taken
              refine lv_iload_n hx hb dX2_factor_46 rfl (lv_at hl 0 rfl) ?_
              refine lv_bipush (v := 80) hx hb dX2_factor_47 (by decide) ?_
              refine lv_icmp_eq (x := od_lk T N i) (y := 80) (tgt := 67) hx hb dX2_factor_49 (by decide) (fun c49 => ?_) (fun c49 => ?_)
              · -- taken
                refine lv_iconst (v := 1) hx hb dX2_factor_67 (by decide) ?_
                refine lv_goto (tgt := 72) hx hb dX2_factor_68 (by decide) ?_
                exact oc_topi (x := 1) (by simp [od_isf, oc_b, *]) K72
              · -- not taken
                refine lv_iload_n hx hb dX2_factor_52 rfl (lv_at hl 0 rfl) ?_
                refine lv_bipush (v := 40) hx hb dX2_factor_53 (by decide) ?_
                refine lv_icmp_ne (x := od_lk T N i) (y := 40) (tgt := 71) hx hb dX2_factor_55 (by decide) (fun c55 => ?_) (fun c55 => ?_)
                · -- taken
                  refine lv_iconst (v := 0) hx hb dX2_factor_71 (by decide) ?_
                  exact oc_topi (x := 0) (by simp [od_isf, oc_b, *]) K72
                · -- not taken
                  refine lv_aload_n hx hb dX2_factor_58 rfl (lv_at hl 2 rfl) ?_
                  refine va_get (D := D) (ci := 1) (v := .int (nI dd)) (C := RX2) (T := TX2) (N := 5) hx hb hts in_X2 hown hK hP 0 rfl rfl 4 (by decide) (hts _ q76) (fun _ h9 => h9) rfl dX2_factor_59 ?_
                  refine lv_bipush (v := 8) hx hb dX2_factor_62 (by decide) ?_
                  refine lv_icmp_ge (x := nI dd) (y := 8) (tgt := 71) hx hb dX2_factor_64 (by decide) (fun c64 => ?_) (fun c64 => ?_)
                  · -- taken
                    rw [oc_le (x := 8) (y := nI dd) (a := 8) (b := dd) rfl rfl (by omega) (by omega)] at c64
                    refine lv_iconst (v := 0) hx hb dX2_factor_71 (by decide) ?_
                    exact oc_topi (x := 0) (by simp [od_isf, oc_b, *]) K72
                  · -- not taken
                    rw [oc_le (x := 8) (y := nI dd) (a := 8) (b := dd) rfl rfl (by omega) (by omega)] at c64
                    refine lv_iconst (v := 1) hx hb dX2_factor_67 (by decide) ?_
                    refine lv_goto (tgt := 72) hx hb dX2_factor_68 (by decide) ?_
                    exact oc_topi (x := 1) (by simp [od_isf, oc_b, *]) K72
