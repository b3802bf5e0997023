/-! ===== term and rule ===== -/
theorem od_frs {r sz i j q : Nat} {e0 e1 e2 : va_E} {ws : va_W} (hD : va_D (va_A ([(r, e0)] : va_W) sz) ws) (hi : ws[i]? = some (q, e1)) (hj : ws[j]? = some (r, e2)) (hij : i ≠ j) : sz ≤ q := by
  rcases hD.2 i _ hi with ⟨k, e, hk⟩ | h
  · have := List.mem_of_getElem? hk
    simp only [List.mem_cons, Prod.mk.injEq, List.not_mem_nil, or_false] at this
    exact absurd (hD.1 i j _ _ hi hj this.1) hij
  · exact h
theorem od_LBk {α : Type} {D : va_G} {d : Nat → ClassId} {E0 : Nat} {Nd : (Nat → Prop) → Heap → Nat → α → Prop} {Hs a0 : Nat} {H : Heap} {li ar cp : Nat} {el : Nat → Option Nat} {ss : List α} (h : od_LB D d E0 Nd Hs a0 H li ar cp el ss) {ws : va_W} (hw : ∀ x ∈ ws, x.1 = a0 ∨ x.1 < Hs) : ∀ x ∈ ws, x.1 ≠ li ∧ (x.1 = ar → ar = E0) := by
  obtain ⟨h1, h2, h3, h4, h6, h7, h8, h9⟩ := h
  intro x hx
  rcases hw x hx with e | e
  · rw [e]
    exact ⟨h6, fun z => Classical.byContradiction fun w => h7 w z⟩
  · exact ⟨by omega, fun z => Classical.byContradiction fun w => by have := h4 w; omega⟩
/-- a node made behind sz, seen from a list that was there -/
theorem od_LBn {α : Type} {D : va_G} {d : Nat → ClassId} {E0 : Nat} {Nd : (Nat → Prop) → Heap → Nat → α → Prop} {Hs a0 : Nat} {H H1 : Heap} {li ar cp y : Nat} {S : α} {el : Nat → Option Nat} {ss : List α} (hN : od_NdK D Nd) (h : od_LB D d E0 Nd Hs a0 H li ar cp el ss) (hs : Hs ≤ H.size) (hy : Nd (fun z => Array.size H ≤ z) H1 y S) : Nd (fun z => Hs ≤ z ∧ z ≠ li ∧ (ar ≠ E0 → z ≠ ar) ∧ z ≠ a0) H1 y S := by
  obtain ⟨h1, h2, h3, h4, h6, h7, h8, h9⟩ := h
  have hl := h1.lt
  exact hN.2 _ _ _ _ _ _ hy (fun z hz _ => ⟨by omega, by omega, fun w => by have := h1.ltr w; omega, by omega⟩) (fun z _ _ => rfl)
theorem od_nr {r z : Nat} {e : va_E} {H : Heap} (h1 : z ≠ r) (h2 : z < Array.size H) (h3 : va_A ([(r, e)] : va_W) (Array.size H) z) : False := by
  rcases h3 with ⟨k, e, hk⟩ | h
  · have := List.mem_of_getElem? hk
    simp only [List.mem_cons, Prod.mk.injEq, List.not_mem_nil, or_false] at this
    exact h1 this.1
  · omega
set_option maxHeartbeats 4000000 in
set_option maxRecDepth 100000 in
theorem kX2_term {l : Launch} {s0 : State} {b0 : Addr} {D : va_G} {d : Nat → ClassId} (G : oc_G l s0 b0 D d) {H : Heap} (r tx N i b dd k ed FR LO mi : Nat) (T T6 f nm : Nat → Int32) (hN3 : N ≤ 300) (hiN : i ≤ N) (hAH : od_AH T T6 i dd k) (hM0 : va_Mi "[Ljava/lang/Object;" mi s0) (hP : va_P D oc_cl ([(r, .inr (1, [.ref tx, .int (nI N), .int (nI i), .int (nI b), .int (nI dd)]))] : va_W) H) (hD : va_D (va_A ([(r, .inr (1, [.ref tx, .int (nI N), .int (nI i), .int (nI b), .int (nI dd)]))] : va_W) (Array.size H)) ([(r, .inr (1, [.ref tx, .int (nI N), .int (nI i), .int (nI b), .int (nI dd)]))] : va_W)) (hN0 : ∀ z_9 ∈ ([(r, .inr (1, [.ref tx, .int (nI N), .int (nI i), .int (nI b), .int (nI dd)]))] : va_W), s0.heap.size ≤ z_9.1) (hPt : va_P D oc_cl ([(tx, .inl (d 2, 300, .inl T))] : va_W) H) (hPt_d : ∀ z_8 ∈ ([(tx, .inl (d 2, 300, .inl T))] : va_W), ∀ z_9 ∈ ([(r, .inr (1, [.ref tx, .int (nI N), .int (nI i), .int (nI b), .int (nI dd)]))] : va_W), z_8.1 ≠ z_9.1) {E0 : Nat} (hE : oc_E s0 E0) (hTf : ∀ q, q < N → f q = T q) (hFac : od_Kf l s0 D d r tx N T T6 b dd k yX2_factor FR LO 1 6 (od_dF D d E0 f b nm ed) (od_RS f b dd) 10 200 (fun _ => True)) : oc_C l s0 yX2_term (oc_rm (FR + 8) (LO + 160) (20 * (N - i) + 10) (300 * (N - i) + 60)) [.ref r] H (va_A ([(r, .inr (1, [.ref tx, .int (nI N), .int (nI i), .int (nI b), .int (nI dd)]))] : va_W) (Array.size H)) (od_RT (od_PP D r tx N T T6 b dd k i H (va_A ([(r, .inr (1, [.ref tx, .int (nI N), .int (nI i), .int (nI b), .int (nI dd)]))] : va_W) (Array.size H)) (od_dT D d E0 f b nm ed) (od_RS f b dd) 7 100 (fun j => ¬ od_lk T N j = 38)) (od_QQ s0 D r tx N T T6 b i H (va_A ([(r, .inr (1, [.ref tx, .int (nI N), .int (nI i), .int (nI b), .int (nI dd)]))] : va_W) (Array.size H)) 10 60)) := by
  refine oc_start G (cc := cX2_term) (L := 2) (ret := (Option.some (Jvm.ClassFile.FieldType.object "OriginRules$Node"))) q317 (Nat.le_of_ble_eq_true rfl) ?_
  intro p e s m below meth c ls hx hok hb hml hr hlocks htab hown hts hK hmn hh hl
  subst hh
  have hl : lv_has ls 2 [(0, .ref r)] := hl
  have hN0 := oc_N0 hok hN0
  have hA : ∀ q, Array.size s.heap ≤ q → (va_A ([(r, .inr (1, [.ref tx, .int (nI N), .int (nI i), .int (nI b), .int (nI dd)]))] : va_W) (Array.size s.heap)) q := fun q z => Or.inr z
  have hS : va_S (va_A ([(r, .inr (1, [.ref tx, .int (nI N), .int (nI i), .int (nI b), .int (nI dd)]))] : va_W) (Array.size s.heap)) s.heap s.heap [] := va_S.rf
  have hPt_n : ∀ z_9 ∈ ([(tx, .inl (d 2, 300, .inl T))] : va_W), ¬ (va_A ([(r, .inr (1, [.ref tx, .int (nI N), .int (nI i), .int (nI b), .int (nI dd)]))] : va_W) (Array.size s.heap)) z_9.1 := oc_nA hPt hPt_d
  generalize hAe : (va_A ([(r, .inr (1, [.ref tx, .int (nI N), .int (nI i), .int (nI b), .int (nI dd)]))] : va_W) (Array.size s.heap)) = A at *
  have hPt_0 := hPt
  have hrs : r < Array.size s.heap := (hP 0 _ rfl).lt
  have hs00 : s0.heap.size ≤ Array.size s.heap := hok.2.1
  refine oc_new (D := D) (C := RX7) (T := TX7) (N := 1) (ci := 6) (fs := [.null]) hx hb hts in_X7 tyX7 tyX7_ok hown (hts _ q318) (hts _ q319) (hts _ q36) hK hP hD hS hA rfl (by decide +kernel) (by dsimp only [oc_rm]; omega) (by dsimp only [oc_rm]; omega) dX2_term_0 (fun q_1 H hq_q_1 hz_q_1 ho_q_1 hP hD hS => ?_)
  have hP : va_P D oc_cl ([(r, .inr (1, [.ref tx, .int (nI N), .int (nI i), .int (nI b), .int (nI dd)])), (q_1, .inr (6, [.null]))] : va_W) H := hP
  have hD : va_D A ([(r, .inr (1, [.ref tx, .int (nI N), .int (nI i), .int (nI b), .int (nI dd)])), (q_1, .inr (6, [.null]))] : va_W) := hD
  have hPt : va_P D oc_cl ([(tx, .inl (d 2, 300, .inl T))] : va_W) H := od_keep hPt_0 hPt_n hS
  refine lv_dup hx hb dX2_term_3 rfl ?_
  have hF_ : ∀ q, va_A ([(q_1, .inr (6, [.null]))] : va_W) (Array.size H) q → A q := va_free hD hS hA [1] rfl
  refine oc_callP (A1 := va_A ([(q_1, .inr (6, [.null]))] : va_W) (Array.size H)) hx hb hml hl.1 ⟨hok, hS, hN0⟩ (oc_iIN (As := []) (rest := [.ref q_1]) hx hb hown (oc_wM G hok q320) (hts _ q321) (hts _ q322) ⟨by decide, by decide, by decide, (by decide +kernel : (parseMethodDescriptor "()V").map (fun d => d.parameters.length) = some 0)⟩ dX2_term_4 rfl) (oc_M.of (by decide +kernel) (hts _ q322)) (kX7_init G q_1 (hP.sub [1] rfl) ((hD.sub [1] rfl rfl).self) (oc_N1 hD hN0 [1] rfl) hE) hF_ dX2_term_4 (by dsimp only [oc_rm]; omega) (by simp only [oc_rm, List.map_cons, List.map_nil, List.sum_cons, List.sum_nil, Value.category]; omega) (by dsimp only [oc_rm]; omega) (by dsimp only [oc_rm]; omega) (fun v_ H locs k_ n_ hp_ hz_ hk_ hS => ?_)
  obtain ⟨rfl, hk9, hn9, q_9, hP1, hD1⟩ := hp_
  subst k_; subst n_
  obtain ⟨hP, hD⟩ := va_join (w1 := ([(q_1, .inr (6, [.ref q_9])), (q_9, .inr (4, [.int 0, .ref E0, .int 0]))] : va_W)) (wr := ([(r, .inr (1, [.ref tx, .int (nI N), .int (nI i), .int (nI b), .int (nI dd)]))] : va_W)) hP hD [1] [0] rfl rfl rfl (by decide) hk_ hF_ hP1 hD1
  have hP : va_P D oc_cl ([(r, .inr (1, [.ref tx, .int (nI N), .int (nI i), .int (nI b), .int (nI dd)])), (q_1, .inr (6, [.ref q_9])), (q_9, .inr (4, [.int 0, .ref E0, .int 0]))] : va_W) H := hP
  have hD : va_D A ([(r, .inr (1, [.ref tx, .int (nI N), .int (nI i), .int (nI b), .int (nI dd)])), (q_1, .inr (6, [.ref q_9])), (q_9, .inr (4, [.int 0, .ref E0, .int 0]))] : va_W) := hD
  have hPt : va_P D oc_cl ([(tx, .inl (d 2, 300, .inl T))] : va_W) H := od_keep hPt_0 hPt_n hS
  refine W.eq (g2 := F0 m 7 ls [.ref q_1]) rfl ?_
  have hq1 : Array.size s.heap ≤ q_1 := od_frs (by rw [hAe]; exact hD) (i := 1) (j := 0) rfl rfl (by decide)
  have hq9 : Array.size s.heap ≤ q_9 := od_frs (by rw [hAe]; exact hD) (i := 2) (j := 0) rfl rfl (by decide)
  have hq19 : q_1 ≠ q_9 := fun z9 => absurd (hD.1 1 2 _ _ rfl rfl z9) (by decide)
  have hLB : od_LB D d E0 (od_dF D d E0 f b nm ed) (Array.size s.heap) q_1 H q_9 E0 0 (fun _ => none) [] := od_LB.nil (hP 2 _ rfl) hq9 hq19 (hP 1 _ rfl).lt
  have hP : va_P D oc_cl ([(r, .inr (1, [.ref tx, .int (nI N), .int (nI i), .int (nI b), .int (nI dd)])), (q_1, .inr (6, [.ref q_9]))] : va_W) H := hP.sub [0, 1] rfl
  have hD : va_D A ([(r, .inr (1, [.ref tx, .int (nI N), .int (nI i), .int (nI b), .int (nI dd)])), (q_1, .inr (6, [.ref q_9]))] : va_W) := hD.sub [0, 1] rfl rfl
  refine lv_astore_n (lv' := [(1, .ref q_1), (0, .ref r)]) hx hb dX2_term_7 rfl hl (by decide) rfl (fun ls hl => ?_)
  refine lv_aload_n hx hb dX2_term_8 rfl (lv_at hl 0 rfl) ?_
  refine va_getN (D := D) (ci := 6) (v := .ref q_9) (C := RX7) (T := TX7) (N := 1) hx hb hts in_X7 hown hK hP 1 rfl rfl 0 (by decide) (oc_wF G hok q327) (fun _ h9 => h9) rfl dX2_term_9 ?_
  refine lv_aload_n hx hb dX2_term_12 rfl (lv_at hl 1 rfl) ?_
  have hF_ : ∀ q, va_A ([(r, .inr (1, [.ref tx, .int (nI N), .int (nI i), .int (nI b), .int (nI dd)]))] : va_W) (Array.size H) q → A q := va_free hD hS hA [0] rfl
  have hsz_ := hS.1
  refine oc_callRT (A1 := va_A ([(r, .inr (1, [.ref tx, .int (nI N), .int (nI i), .int (nI b), .int (nI dd)]))] : va_W) (Array.size H)) hx hb hml hl.1 ⟨hok, hS, hN0⟩ (oc_iS (As := [.ref r]) (rest := [.ref q_9]) hx hb hown (hts _ q331) (hts _ q332) (hts _ q25) (hts _ q333) ⟨by decide, by decide, (by decide +kernel : (parseMethodDescriptor "(LOriginRules$Reader;)LOriginRules$Node;").map (fun d => d.parameters.length) = some 1)⟩ dX2_term_13 rfl) (oc_M.of (by decide +kernel) (hts _ q333)) (hFac H i hAH (by omega) (hP.sub [0] rfl) (hPt 0 _ rfl)) hF_ dX2_term_13 (by dsimp only [oc_rm]; omega) (by simp only [oc_rm, List.map_cons, List.map_nil, List.sum_cons, List.sum_nil, Value.category]; omega) (by dsimp only [oc_rm]; omega) (by dsimp only [oc_rm]; omega) (fun v_ H locs k_ n_ hp_ hz_ hk_ hS => ?_) (fun a_ H locs k_ n_ hp_ hz_ hk_ hS => ?_)
  · -- a node
    obtain ⟨j2, a2, S2, rfl, hj2a, hj2b, hP1, hD1, hBH2, hNd2, hRS2, hck2, hcn2, hX2⟩ := hp_
    obtain ⟨hP, hD⟩ := va_join (w1 := ([(r, .inr (1, [.ref tx, .int (nI N), .int (nI j2), .int (nI b), .int (nI dd)]))] : va_W)) (wr := ([(q_1, .inr (6, [.ref q_9]))] : va_W)) hP hD [0] [1] rfl rfl rfl (by decide) hk_ hF_ hP1 hD1
    have hP : va_P D oc_cl ([(q_1, .inr (6, [.ref q_9])), (r, .inr (1, [.ref tx, .int (nI N), .int (nI j2), .int (nI b), .int (nI dd)]))] : va_W) H := hP
    have hD : va_D A ([(q_1, .inr (6, [.ref q_9])), (r, .inr (1, [.ref tx, .int (nI N), .int (nI j2), .int (nI b), .int (nI dd)]))] : va_W) := hD
    have hPt : va_P D oc_cl ([(tx, .inl (d 2, 300, .inl T))] : va_W) H := od_keep hPt_0 hPt_n hS
    have hNd3 := od_LBn (od_NdF (d := d) (E0 := E0) (f := f) (b := b) (nm := nm) (e := ed)) hLB hsz_ hNd2
    have hLB := hLB.kept (od_NdF (d := d) (E0 := E0) (f := f) (b := b) (nm := nm) (e := ed)) hz_ (fun z h1 h2 => hk_ z h2 (fun h3 => od_nr (by omega) h2 h3))
    refine W.eq (g2 := F0 m 16 ls [.ref a2, .ref q_9]) rfl ?_
    have hne_ := od_LBk hLB (ws := ([(q_1, .inr (6, [.ref q_9])), (r, .inr (1, [.ref tx, .int (nI N), .int (nI j2), .int (nI b), .int (nI dd)]))] : va_W)) (fun x9 hx9 => by simp only [List.mem_cons, List.not_mem_nil, or_false] at hx9; rcases hx9 with rfl | rfl; exact Or.inl rfl; exact Or.inr hrs)
    have hsz_ := hS.1
    refine od_addN (y := a2) (od_NdF (d := d) (E0 := E0) (f := f) (b := b) (nm := nm) (e := ed)) G hE hM0 hx hb hml hl.1 ⟨hok, hS, hN0⟩ (oc_iV (As := [.ref a2]) (rest := []) hx hb hown (hts _ q384) (hts _ q385) (hts _ q386) (oc_Sig.of (hts _ q387) (by decide +kernel : (parseMethodDescriptor "(Ljava/lang/Object;)Z").map (fun d => d.parameters.length) = some 1)) (od_recv hK hLB.1) ⟨by decide, by decide⟩ dX2_term_16 rfl) (oc_M.of (by decide +kernel) (hts _ q387)) hLB (by simp) hs00 hA hS.1 hNd3 dX2_term_16 (by dsimp only [oc_rm]; omega) (by simp only [oc_rm, List.map_cons, List.map_nil, List.sum_cons, List.sum_nil, Value.category]; omega) (by dsimp only [oc_rm]; omega) (by simp only [oc_rm, List.length_nil]; omega) (fun H locs k_5 n_5 ar2 cp2 el2 hLB2 hk5 hn5 hz_ hkk_ hS => ?_)
    have hP : va_P D oc_cl ([(q_1, .inr (6, [.ref q_9])), (r, .inr (1, [.ref tx, .int (nI N), .int (nI j2), .int (nI b), .int (nI dd)]))] : va_W) H := hP.kept (fun k9 q9 h9 => hkk_ q9.1 (hP k9 q9 h9).lt (hne_ q9 (List.mem_of_getElem? h9)).1 (hne_ q9 (List.mem_of_getElem? h9)).2)
    have hPt : va_P D oc_cl ([(tx, .inl (d 2, 300, .inl T))] : va_W) H := od_keep hPt_0 hPt_n hS
    refine W.eq (g2 := F0 m 19 ls [.int 1]) rfl ?_
    refine lv_pop hx hb dX2_term_19 rfl ?_
    have lp20 : ∀ (n : Nat) (j : Nat) (ss : List od_Sm) (ar : Nat) (cp : Nat) (el : Nat → Option Nat) (ce : Nat) (sl : Nat), (i < j ∧ j ≤ N) → (N + 1 ≤ j + n) → (1 ≤ ss.length ∧ ss.length ≤ j - i) → (od_BH T T6 N j dd k) → (od_RS f b dd i j (od_all ss)) → (ce + 7 ≤ 20 * (j - i)) → (sl + 200 * ss.length ≤ 4 + 4 * cp + 300 * (j - i)) → ∀ (H : Heap) (locs : List Loc), va_P D oc_cl ([(q_1, .inr (6, [.ref q_9])), (r, .inr (1, [.ref tx, .int (nI N), .int (nI j), .int (nI b), .int (nI dd)]))] : va_W) H → va_D A ([(q_1, .inr (6, [.ref q_9])), (r, .inr (1, [.ref tx, .int (nI N), .int (nI j), .int (nI b), .int (nI dd)]))] : va_W) → va_S A s.heap H locs → od_LB D d E0 (od_dF D d E0 f b nm ed) (Array.size s.heap) q_1 H q_9 ar cp el ss → ∀ (ls : Array Slot), lv_has ls 2 [(0, .ref r), (1, .ref q_1)] → W p l e (oc_rm (FR + 8) (LO + 160) (20 * (N - i) + 10) (300 * (N - i) + 60)) s m ([.ref r] : List Value).toArray below meth c H locs ce sl (oc_Q A below s (od_RT (od_PP D r tx N T T6 b dd k i s.heap A (od_dT D d E0 f b nm ed) (od_RS f b dd) 7 100 (fun j => ¬ od_lk T N j = 38)) (od_QQ s0 D r tx N T T6 b i s.heap A 10 60))) (F0 m 20 ls []) := by
      intro n
      induction n with
      | zero => intro j ss ar cp el ce sl hj hn hm hBH hRS hce hsl H locs hP hD hS hLB ls hl; exact absurd hn (by omega)
      | succ n ih20 =>
        intro j ss ar cp el ce sl hj hn hm hBH hRS hce hsl H locs hP hD hS hLB ls hl
        have hPt : va_P D oc_cl ([(tx, .inl (d 2, 300, .inl T))] : va_W) H := od_keep hPt_0 hPt_n hS
        have hcp9 := hLB.2.1
        refine lv_aload_n hx hb dX2_term_20 rfl (lv_at hl 0 rfl) ?_
        refine oc_callR1 hx hb hml hl.1 ⟨hok, hS, hN0⟩ (oc_iV (As := []) (rest := []) hx hb hown (hts _ q219) (hts _ q221) (hts _ qs3) (oc_Sig.of (hts _ q222) (by decide +kernel : (parseMethodDescriptor "()I").map (fun d => d.parameters.length) = some 0)) (va_recv hK hP (ci := 1) (q0 := 1) rfl rfl) ⟨by decide, by decide⟩ dX2_term_21 rfl) (oc_M.of (by decide +kernel) (hts _ q222)) (kX2_look G r tx N j (nI b) (nI dd) T hN3 (by omega) (oc_Pc (hP 1 _ rfl) hPt)) dX2_term_21 (by dsimp only [oc_rm]; omega) (by simp only [oc_rm, List.map_cons, List.map_nil, List.sum_cons, List.sum_nil, Value.category]; omega) (by dsimp only [oc_rm]; omega) (by dsimp only [oc_rm]; omega) ?_
        refine lv_bipush (v := 38) hx hb dX2_term_24 (by decide) ?_
        refine lv_icmp_ne (x := od_lk T N j) (y := 38) (tgt := 54) hx hb dX2_term_26 (by decide) (fun c26 => ?_) (fun c26 => ?_)
        · -- taken
          refine lv_aload_n hx hb dX2_term_54 rfl (lv_at hl 1 rfl) ?_
          exact oc_aret hx hb hr (Or.inl ⟨_, rfl⟩) (Or.inr ⟨_, rfl⟩) hlocks hS dX2_term_55 (Or.inl ⟨_, rfl, j, q_1, od_all ss, rfl, hj.1, hj.2, hP.sub [1] rfl, hD.sub [1] rfl rfl, hBH, ⟨ss, hLB.done (od_NdF (d := d) (E0 := E0) (f := f) (b := b) (nm := nm) (e := ed)) hq1 (hP 0 _ rfl), rfl⟩, hRS, by omega, by omega, c26⟩)
        · -- not taken
          obtain ⟨hjN, hTj⟩ := od_lki c26 (by decide)
          have hAH := od_more hBH hjN (by rw [hTj]; decide)
          refine lv_aload_n hx hb dX2_term_29 rfl (lv_at hl 0 rfl) ?_
          refine lv_dup hx hb dX2_term_30 rfl ?_
          refine va_get (D := D) (ci := 1) (v := .int (nI j)) (C := RX2) (T := TX2) (N := 5) hx hb hts in_X2 hown hK hP 1 rfl rfl 2 (by decide) (hts _ q73) (fun _ h9 => h9) rfl dX2_term_31 ?_
          refine lv_iconst (v := 1) hx hb dX2_term_34 (by decide) ?_
          refine lv_iadd hx hb dX2_term_35 ?_
          refine oc_topi (x := (nI j) + 1) (y := nI (j + 1)) (nI_1 j) ?_
          refine oc_put (D := D) (ci := 1) (v := .int (nI (j + 1))) (ty := .int) (C := RX2) (T := TX2) (N := 5) hx hb hts in_X2 tyX2 tyX2_ok nmX2 hown hK hP hD hS 1 rfl rfl 2 (by decide) (hts _ q73) (fun _ h9 => h9) rfl (by decide +kernel) rfl rfl (Nat.le_of_ble_eq_true rfl) dX2_term_36 (fun H locs hz2 ho2 hP hD hS => ?_)
          have hP : va_P D oc_cl ([(q_1, .inr (6, [.ref q_9])), (r, .inr (1, [.ref tx, .int (nI N), .int (nI (j + 1)), .int (nI b), .int (nI dd)]))] : va_W) H := hP
          have hD : va_D A ([(q_1, .inr (6, [.ref q_9])), (r, .inr (1, [.ref tx, .int (nI N), .int (nI (j + 1)), .int (nI b), .int (nI dd)]))] : va_W) := hD
          have hPt : va_P D oc_cl ([(tx, .inl (d 2, 300, .inl T))] : va_W) H := od_keep hPt_0 hPt_n hS
          have hLB := hLB.kept (od_NdF (d := d) (E0 := E0) (f := f) (b := b) (nm := nm) (e := ed)) (by omega) (fun z9 h8 h9 => ho2 z9 (by omega))
          refine lv_aload_n hx hb dX2_term_39 rfl (lv_at hl 1 rfl) ?_
          refine va_getN (D := D) (ci := 6) (v := .ref q_9) (C := RX7) (T := TX7) (N := 1) hx hb hts in_X7 hown hK hP 0 rfl rfl 0 (by decide) (oc_wF G hok q327) (fun _ h9 => h9) rfl dX2_term_40 ?_
          refine lv_aload_n hx hb dX2_term_43 rfl (lv_at hl 0 rfl) ?_
          have hF_ : ∀ q, va_A ([(r, .inr (1, [.ref tx, .int (nI N), .int (nI (j + 1)), .int (nI b), .int (nI dd)]))] : va_W) (Array.size H) q → A q := va_free hD hS hA [1] rfl
          have hsz_ := hS.1
          refine oc_callRT (A1 := va_A ([(r, .inr (1, [.ref tx, .int (nI N), .int (nI (j + 1)), .int (nI b), .int (nI dd)]))] : va_W) (Array.size H)) hx hb hml hl.1 ⟨hok, hS, hN0⟩ (oc_iS (As := [.ref r]) (rest := [.ref q_9]) hx hb hown (hts _ q331) (hts _ q332) (hts _ q25) (hts _ q333) ⟨by decide, by decide, (by decide +kernel : (parseMethodDescriptor "(LOriginRules$Reader;)LOriginRules$Node;").map (fun d => d.parameters.length) = some 1)⟩ dX2_term_44 rfl) (oc_M.of (by decide +kernel) (hts _ q333)) (hFac H (j + 1) hAH (by omega) (hP.sub [1] rfl) (hPt 0 _ rfl)) hF_ dX2_term_44 (by dsimp only [oc_rm]; omega) (by simp only [oc_rm, List.map_cons, List.map_nil, List.sum_cons, List.sum_nil, Value.category]; omega) (by dsimp only [oc_rm]; omega) (by dsimp only [oc_rm]; omega) (fun v_ H locs k_ n_ hp_ hz_ hk_ hS => ?_) (fun a_ H locs k_ n_ hp_ hz_ hk_ hS => ?_)
          · -- a node
            obtain ⟨j2, a2, S2, rfl, hj2a, hj2b, hP1, hD1, hBH2, hNd2, hRS2, hck2, hcn2, hX2⟩ := hp_
            obtain ⟨hP, hD⟩ := va_join (w1 := ([(r, .inr (1, [.ref tx, .int (nI N), .int (nI j2), .int (nI b), .int (nI dd)]))] : va_W)) (wr := ([(q_1, .inr (6, [.ref q_9]))] : va_W)) hP hD [1] [0] rfl rfl rfl (by decide) hk_ hF_ hP1 hD1
            have hP : va_P D oc_cl ([(q_1, .inr (6, [.ref q_9])), (r, .inr (1, [.ref tx, .int (nI N), .int (nI j2), .int (nI b), .int (nI dd)]))] : va_W) H := hP
            have hD : va_D A ([(q_1, .inr (6, [.ref q_9])), (r, .inr (1, [.ref tx, .int (nI N), .int (nI j2), .int (nI b), .int (nI dd)]))] : va_W) := hD
            have hPt : va_P D oc_cl ([(tx, .inl (d 2, 300, .inl T))] : va_W) H := od_keep hPt_0 hPt_n hS
            have hNd3 := od_LBn (od_NdF (d := d) (E0 := E0) (f := f) (b := b) (nm := nm) (e := ed)) hLB hsz_ hNd2
            have hLB := hLB.kept (od_NdF (d := d) (E0 := E0) (f := f) (b := b) (nm := nm) (e := ed)) hz_ (fun z h1 h2 => hk_ z h2 (fun h3 => od_nr (by omega) h2 h3))
            refine W.eq (g2 := F0 m 47 ls [.ref a2, .ref q_9]) rfl ?_
            have hne_ := od_LBk hLB (ws := ([(q_1, .inr (6, [.ref q_9])), (r, .inr (1, [.ref tx, .int (nI N), .int (nI j2), .int (nI b), .int (nI dd)]))] : va_W)) (fun x9 hx9 => by simp only [List.mem_cons, List.not_mem_nil, or_false] at hx9; rcases hx9 with rfl | rfl; exact Or.inl rfl; exact Or.inr hrs)
            have hsz_ := hS.1
            refine od_addN (y := a2) (od_NdF (d := d) (E0 := E0) (f := f) (b := b) (nm := nm) (e := ed)) G hE hM0 hx hb hml hl.1 ⟨hok, hS, hN0⟩ (oc_iV (As := [.ref a2]) (rest := []) hx hb hown (hts _ q384) (hts _ q385) (hts _ q386) (oc_Sig.of (hts _ q387) (by decide +kernel : (parseMethodDescriptor "(Ljava/lang/Object;)Z").map (fun d => d.parameters.length) = some 1)) (od_recv hK hLB.1) ⟨by decide, by decide⟩ dX2_term_47 rfl) (oc_M.of (by decide +kernel) (hts _ q387)) hLB (by omega) hs00 hA hS.1 hNd3 dX2_term_47 (by dsimp only [oc_rm]; omega) (by simp only [oc_rm, List.map_cons, List.map_nil, List.sum_cons, List.sum_nil, Value.category]; omega) (by dsimp only [oc_rm]; omega) (by simp only [oc_rm, List.length_nil]; omega) (fun H locs k_5 n_5 ar2 cp2 el2 hLB2 hk5 hn5 hz_ hkk_ hS => ?_)
            have hP : va_P D oc_cl ([(q_1, .inr (6, [.ref q_9])), (r, .inr (1, [.ref tx, .int (nI N), .int (nI j2), .int (nI b), .int (nI dd)]))] : va_W) H := hP.kept (fun k9 q9 h9 => hkk_ q9.1 (hP k9 q9 h9).lt (hne_ q9 (List.mem_of_getElem? h9)).1 (hne_ q9 (List.mem_of_getElem? h9)).2)
            have hPt : va_P D oc_cl ([(tx, .inl (d 2, 300, .inl T))] : va_W) H := od_keep hPt_0 hPt_n hS
            refine W.eq (g2 := F0 m 50 ls [.int 1]) rfl ?_
            refine lv_pop hx hb dX2_term_50 rfl ?_
            refine lv_goto (tgt := 20) hx hb dX2_term_51 (by decide) ?_
            exact ih20 j2 (ss ++ [S2]) ar2 cp2 el2 (ce + k_ + k_5) (sl + n_ + n_5) (⟨by omega, hj2b⟩) (by omega) (⟨by simp, by simp; omega⟩) hBH2 (od_RSand hRS (by rw [hTf _ hjN]; exact hTj) hRS2) (by omega) (by simp only [List.length_append, List.length_singleton]; omega) H locs hP hD hS hLB2 ls (lv_sub hl [0, 1] rfl)
          · -- wrong
            obtain ⟨pp, de2, hpp1, hpp2, hsz9, hex9, hP1, hD1, hER, hck2, hcn2⟩ := hp_
            obtain ⟨hP, hD⟩ := va_join (w1 := ([(r, .inr (1, [.ref tx, .int (nI N), .int (nI pp), .int (nI b), .int de2]))] : va_W)) (wr := ([(q_1, .inr (6, [.ref q_9]))] : va_W)) hP hD [1] [0] rfl rfl rfl (by decide) hk_ hF_ hP1 hD1
            have hP : va_P D oc_cl ([(q_1, .inr (6, [.ref q_9])), (r, .inr (1, [.ref tx, .int (nI N), .int (nI pp), .int (nI b), .int de2]))] : va_W) H := hP
            have hD : va_D A ([(q_1, .inr (6, [.ref q_9])), (r, .inr (1, [.ref tx, .int (nI N), .int (nI pp), .int (nI b), .int de2]))] : va_W) := hD
            have hPt : va_P D oc_cl ([(tx, .inl (d 2, 300, .inl T))] : va_W) H := od_keep hPt_0 hPt_n hS
            exact oc_xout hlocks (by rw [htab]; intro x9 hx9; cases hx9) hS (Or.inr ⟨_, rfl, pp, de2, by omega, hpp2, by omega, hex9, hP.sub [1] rfl, hD.sub [1] rfl rfl, hER, by omega, by omega⟩)
    exact lp20 (N + 1) j2 ([S2]) ar2 cp2 el2 (0 + 1 + 1 + k_ + k_5) (0 + 1 + 3 + n_ + n_5) (⟨hj2a, hj2b⟩) (by omega) (⟨by simp, by simp; omega⟩) hBH2 (by rw [od_all1]; exact hRS2) (by omega) (by simp; omega) H locs hP hD hS hLB2 ls (lv_sub hl [1, 0] rfl)
  · -- wrong
    obtain ⟨pp, de2, hpp1, hpp2, hsz9, hex9, hP1, hD1, hER, hck2, hcn2⟩ := hp_
    obtain ⟨hP, hD⟩ := va_join (w1 := ([(r, .inr (1, [.ref tx, .int (nI N), .int (nI pp), .int (nI b), .int de2]))] : va_W)) (wr := ([(q_1, .inr (6, [.ref q_9]))] : va_W)) hP hD [0] [1] rfl rfl rfl (by decide) hk_ hF_ hP1 hD1
    have hP : va_P D oc_cl ([(q_1, .inr (6, [.ref q_9])), (r, .inr (1, [.ref tx, .int (nI N), .int (nI pp), .int (nI b), .int de2]))] : va_W) H := hP
    have hD : va_D A ([(q_1, .inr (6, [.ref q_9])), (r, .inr (1, [.ref tx, .int (nI N), .int (nI pp), .int (nI b), .int de2]))] : va_W) := hD
    have hPt : va_P D oc_cl ([(tx, .inl (d 2, 300, .inl T))] : va_W) H := od_keep hPt_0 hPt_n hS
    exact oc_xout hlocks (by rw [htab]; intro x9 hx9; cases hx9) hS (Or.inr ⟨_, rfl, pp, de2, by omega, hpp2, by omega, hex9, hP.sub [1] rfl, hD.sub [1] rfl rfl, hER, by omega, by omega⟩)
set_option maxHeartbeats 4000000 in
set_option maxRecDepth 100000 in
theorem kX2_rule {l : Launch} {s0 : State} {b0 : Addr} {D : va_G} {d : Nat → ClassId} (G : oc_G l s0 b0 D d) {H : Heap} (r tx N i b dd k ed FR LO mi : Nat) (T T6 f nm : Nat → Int32) (hN3 : N ≤ 300) (hiN : i ≤ N) (hAH : od_AH T T6 i dd k) (hM0 : va_Mi "[Ljava/lang/Object;" mi s0) (hP : va_P D oc_cl ([(r, .inr (1, [.ref tx, .int (nI N), .int (nI i), .int (nI b), .int (nI dd)]))] : va_W) H) (hD : va_D (va_A ([(r, .inr (1, [.ref tx, .int (nI N), .int (nI i), .int (nI b), .int (nI dd)]))] : va_W) (Array.size H)) ([(r, .inr (1, [.ref tx, .int (nI N), .int (nI i), .int (nI b), .int (nI dd)]))] : va_W)) (hN0 : ∀ z_9 ∈ ([(r, .inr (1, [.ref tx, .int (nI N), .int (nI i), .int (nI b), .int (nI dd)]))] : va_W), s0.heap.size ≤ z_9.1) (hPt : va_P D oc_cl ([(tx, .inl (d 2, 300, .inl T))] : va_W) H) (hPt_d : ∀ z_8 ∈ ([(tx, .inl (d 2, 300, .inl T))] : va_W), ∀ z_9 ∈ ([(r, .inr (1, [.ref tx, .int (nI N), .int (nI i), .int (nI b), .int (nI dd)]))] : va_W), z_8.1 ≠ z_9.1) {E0 : Nat} (hE : oc_E s0 E0) (hTf : ∀ q, q < N → f q = T q) (hTer : od_Kf l s0 D d r tx N T T6 b dd k yX2_term FR LO 10 60 (od_dT D d E0 f b nm ed) (od_RS f b dd) 7 100 (fun j => ¬ od_lk T N j = 38)) : oc_C l s0 yX2_rule (oc_rm (FR + 8) (LO + 160) (20 * (N - i) + 20) (300 * (N - i) + 120)) [.ref r] H (va_A ([(r, .inr (1, [.ref tx, .int (nI N), .int (nI i), .int (nI b), .int (nI dd)]))] : va_W) (Array.size H)) (od_RT (od_PP D r tx N T T6 b dd k i H (va_A ([(r, .inr (1, [.ref tx, .int (nI N), .int (nI i), .int (nI b), .int (nI dd)]))] : va_W) (Array.size H)) (od_dR D d E0 f b nm ed) (od_RR f b dd) 4 40 (fun j => ¬ od_lk T N j = 38 ∧ ¬ od_lk T N j = 124)) (od_QQ s0 D r tx N T T6 b i H (va_A ([(r, .inr (1, [.ref tx, .int (nI N), .int (nI i), .int (nI b), .int (nI dd)]))] : va_W) (Array.size H)) 20 120)) := by
  refine oc_start G (cc := cX2_rule) (L := 2) (ret := (Option.some (Jvm.ClassFile.FieldType.object "OriginRules$Node"))) q301 (Nat.le_of_ble_eq_true rfl) ?_
  intro p e s m below meth c ls hx hok hb hml hr hlocks htab hown hts hK hmn hh hl
  subst hh
  have hl : lv_has ls 2 [(0, .ref r)] := hl
  have hN0 := oc_N0 hok hN0
  have hA : ∀ q, Array.size s.heap ≤ q → (va_A ([(r, .inr (1, [.ref tx, .int (nI N), .int (nI i), .int (nI b), .int (nI dd)]))] : va_W) (Array.size s.heap)) q := fun q z => Or.inr z
  have hS : va_S (va_A ([(r, .inr (1, [.ref tx, .int (nI N), .int (nI i), .int (nI b), .int (nI dd)]))] : va_W) (Array.size s.heap)) s.heap s.heap [] := va_S.rf
  have hPt_n : ∀ z_9 ∈ ([(tx, .inl (d 2, 300, .inl T))] : va_W), ¬ (va_A ([(r, .inr (1, [.ref tx, .int (nI N), .int (nI i), .int (nI b), .int (nI dd)]))] : va_W) (Array.size s.heap)) z_9.1 := oc_nA hPt hPt_d
  generalize hAe : (va_A ([(r, .inr (1, [.ref tx, .int (nI N), .int (nI i), .int (nI b), .int (nI dd)]))] : va_W) (Array.size s.heap)) = A at *
  have hPt_0 := hPt
  have hrs : r < Array.size s.heap := (hP 0 _ rfl).lt
  have hs00 : s0.heap.size ≤ Array.size s.heap := hok.2.1
  refine oc_new (D := D) (C := RX6) (T := TX6) (N := 1) (ci := 5) (fs := [.null]) hx hb hts in_X6 tyX6 tyX6_ok hown (hts _ q302) (hts _ q303) (hts _ q35) hK hP hD hS hA rfl (by decide +kernel) (by dsimp only [oc_rm]; omega) (by dsimp only [oc_rm]; omega) dX2_rule_0 (fun q_1 H hq_q_1 hz_q_1 ho_q_1 hP hD hS => ?_)
  have hP : va_P D oc_cl ([(r, .inr (1, [.ref tx, .int (nI N), .int (nI i), .int (nI b), .int (nI dd)])), (q_1, .inr (5, [.null]))] : va_W) H := hP
  have hD : va_D A ([(r, .inr (1, [.ref tx, .int (nI N), .int (nI i), .int (nI b), .int (nI dd)])), (q_1, .inr (5, [.null]))] : va_W) := hD
  have hPt : va_P D oc_cl ([(tx, .inl (d 2, 300, .inl T))] : va_W) H := od_keep hPt_0 hPt_n hS
  refine lv_dup hx hb dX2_rule_3 rfl ?_
  have hF_ : ∀ q, va_A ([(q_1, .inr (5, [.null]))] : va_W) (Array.size H) q → A q := va_free hD hS hA [1] rfl
  refine oc_callP (A1 := va_A ([(q_1, .inr (5, [.null]))] : va_W) (Array.size H)) hx hb hml hl.1 ⟨hok, hS, hN0⟩ (oc_iIN (As := []) (rest := [.ref q_1]) hx hb hown (oc_wM G hok q304) (hts _ q305) (hts _ q306) ⟨by decide, by decide, by decide, (by decide +kernel : (parseMethodDescriptor "()V").map (fun d => d.parameters.length) = some 0)⟩ dX2_rule_4 rfl) (oc_M.of (by decide +kernel) (hts _ q306)) (kX6_init G q_1 (hP.sub [1] rfl) ((hD.sub [1] rfl rfl).self) (oc_N1 hD hN0 [1] rfl) hE) hF_ dX2_rule_4 (by dsimp only [oc_rm]; omega) (by simp only [oc_rm, List.map_cons, List.map_nil, List.sum_cons, List.sum_nil, Value.category]; omega) (by dsimp only [oc_rm]; omega) (by dsimp only [oc_rm]; omega) (fun v_ H locs k_ n_ hp_ hz_ hk_ hS => ?_)
  obtain ⟨rfl, hk9, hn9, q_9, hP1, hD1⟩ := hp_
  subst k_; subst n_
  obtain ⟨hP, hD⟩ := va_join (w1 := ([(q_1, .inr (5, [.ref q_9])), (q_9, .inr (4, [.int 0, .ref E0, .int 0]))] : va_W)) (wr := ([(r, .inr (1, [.ref tx, .int (nI N), .int (nI i), .int (nI b), .int (nI dd)]))] : va_W)) hP hD [1] [0] rfl rfl rfl (by decide) hk_ hF_ hP1 hD1
  have hP : va_P D oc_cl ([(r, .inr (1, [.ref tx, .int (nI N), .int (nI i), .int (nI b), .int (nI dd)])), (q_1, .inr (5, [.ref q_9])), (q_9, .inr (4, [.int 0, .ref E0, .int 0]))] : va_W) H := hP
  have hD : va_D A ([(r, .inr (1, [.ref tx, .int (nI N), .int (nI i), .int (nI b), .int (nI dd)])), (q_1, .inr (5, [.ref q_9])), (q_9, .inr (4, [.int 0, .ref E0, .int 0]))] : va_W) := hD
  have hPt : va_P D oc_cl ([(tx, .inl (d 2, 300, .inl T))] : va_W) H := od_keep hPt_0 hPt_n hS
  refine W.eq (g2 := F0 m 7 ls [.ref q_1]) rfl ?_
  have hq1 : Array.size s.heap ≤ q_1 := od_frs (by rw [hAe]; exact hD) (i := 1) (j := 0) rfl rfl (by decide)
  have hq9 : Array.size s.heap ≤ q_9 := od_frs (by rw [hAe]; exact hD) (i := 2) (j := 0) rfl rfl (by decide)
  have hq19 : q_1 ≠ q_9 := fun z9 => absurd (hD.1 1 2 _ _ rfl rfl z9) (by decide)
  have hLB : od_LB D d E0 (od_dT D d E0 f b nm ed) (Array.size s.heap) q_1 H q_9 E0 0 (fun _ => none) [] := od_LB.nil (hP 2 _ rfl) hq9 hq19 (hP 1 _ rfl).lt
  have hP : va_P D oc_cl ([(r, .inr (1, [.ref tx, .int (nI N), .int (nI i), .int (nI b), .int (nI dd)])), (q_1, .inr (5, [.ref q_9]))] : va_W) H := hP.sub [0, 1] rfl
  have hD : va_D A ([(r, .inr (1, [.ref tx, .int (nI N), .int (nI i), .int (nI b), .int (nI dd)])), (q_1, .inr (5, [.ref q_9]))] : va_W) := hD.sub [0, 1] rfl rfl
  refine lv_astore_n (lv' := [(1, .ref q_1), (0, .ref r)]) hx hb dX2_rule_7 rfl hl (by decide) rfl (fun ls hl => ?_)
  refine lv_aload_n hx hb dX2_rule_8 rfl (lv_at hl 0 rfl) ?_
  refine va_getN (D := D) (ci := 5) (v := .ref q_9) (C := RX6) (T := TX6) (N := 1) hx hb hts in_X6 hown hK hP 1 rfl rfl 0 (by decide) (oc_wF G hok q311) (fun _ h9 => h9) rfl dX2_rule_9 ?_
  refine lv_aload_n hx hb dX2_rule_12 rfl (lv_at hl 1 rfl) ?_
  have hF_ : ∀ q, va_A ([(r, .inr (1, [.ref tx, .int (nI N), .int (nI i), .int (nI b), .int (nI dd)]))] : va_W) (Array.size H) q → A q := va_free hD hS hA [0] rfl
  have hsz_ := hS.1
  refine oc_callRT (A1 := va_A ([(r, .inr (1, [.ref tx, .int (nI N), .int (nI i), .int (nI b), .int (nI dd)]))] : va_W) (Array.size H)) hx hb hml hl.1 ⟨hok, hS, hN0⟩ (oc_iS (As := [.ref r]) (rest := [.ref q_9]) hx hb hown (hts _ q315) (hts _ q316) (hts _ q25) (hts _ q317) ⟨by decide, by decide, (by decide +kernel : (parseMethodDescriptor "(LOriginRules$Reader;)LOriginRules$Node;").map (fun d => d.parameters.length) = some 1)⟩ dX2_rule_13 rfl) (oc_M.of (by decide +kernel) (hts _ q317)) (hTer H i hAH (by omega) (hP.sub [0] rfl) (hPt 0 _ rfl)) hF_ dX2_rule_13 (by dsimp only [oc_rm]; omega) (by simp only [oc_rm, List.map_cons, List.map_nil, List.sum_cons, List.sum_nil, Value.category]; omega) (by dsimp only [oc_rm]; omega) (by dsimp only [oc_rm]; omega) (fun v_ H locs k_ n_ hp_ hz_ hk_ hS => ?_) (fun a_ H locs k_ n_ hp_ hz_ hk_ hS => ?_)
  · -- a node
    obtain ⟨j2, a2, S2, rfl, hj2a, hj2b, hP1, hD1, hBH2, hNd2, hRS2, hck2, hcn2, hX2⟩ := hp_
    obtain ⟨hP, hD⟩ := va_join (w1 := ([(r, .inr (1, [.ref tx, .int (nI N), .int (nI j2), .int (nI b), .int (nI dd)]))] : va_W)) (wr := ([(q_1, .inr (5, [.ref q_9]))] : va_W)) hP hD [0] [1] rfl rfl rfl (by decide) hk_ hF_ hP1 hD1
    have hP : va_P D oc_cl ([(q_1, .inr (5, [.ref q_9])), (r, .inr (1, [.ref tx, .int (nI N), .int (nI j2), .int (nI b), .int (nI dd)]))] : va_W) H := hP
    have hD : va_D A ([(q_1, .inr (5, [.ref q_9])), (r, .inr (1, [.ref tx, .int (nI N), .int (nI j2), .int (nI b), .int (nI dd)]))] : va_W) := hD
    have hPt : va_P D oc_cl ([(tx, .inl (d 2, 300, .inl T))] : va_W) H := od_keep hPt_0 hPt_n hS
    have hNd3 := od_LBn (od_NdT (d := d) (E0 := E0) (f := f) (b := b) (nm := nm) (e := ed)) hLB hsz_ hNd2
    have hLB := hLB.kept (od_NdT (d := d) (E0 := E0) (f := f) (b := b) (nm := nm) (e := ed)) hz_ (fun z h1 h2 => hk_ z h2 (fun h3 => od_nr (by omega) h2 h3))
    refine W.eq (g2 := F0 m 16 ls [.ref a2, .ref q_9]) rfl ?_
    have hne_ := od_LBk hLB (ws := ([(q_1, .inr (5, [.ref q_9])), (r, .inr (1, [.ref tx, .int (nI N), .int (nI j2), .int (nI b), .int (nI dd)]))] : va_W)) (fun x9 hx9 => by simp only [List.mem_cons, List.not_mem_nil, or_false] at hx9; rcases hx9 with rfl | rfl; exact Or.inl rfl; exact Or.inr hrs)
    have hsz_ := hS.1
    refine od_addN (y := a2) (od_NdT (d := d) (E0 := E0) (f := f) (b := b) (nm := nm) (e := ed)) G hE hM0 hx hb hml hl.1 ⟨hok, hS, hN0⟩ (oc_iV (As := [.ref a2]) (rest := []) hx hb hown (hts _ q384) (hts _ q385) (hts _ q386) (oc_Sig.of (hts _ q387) (by decide +kernel : (parseMethodDescriptor "(Ljava/lang/Object;)Z").map (fun d => d.parameters.length) = some 1)) (od_recv hK hLB.1) ⟨by decide, by decide⟩ dX2_rule_16 rfl) (oc_M.of (by decide +kernel) (hts _ q387)) hLB (by simp) hs00 hA hS.1 hNd3 dX2_rule_16 (by dsimp only [oc_rm]; omega) (by simp only [oc_rm, List.map_cons, List.map_nil, List.sum_cons, List.sum_nil, Value.category]; omega) (by dsimp only [oc_rm]; omega) (by simp only [oc_rm, List.length_nil]; omega) (fun H locs k_5 n_5 ar2 cp2 el2 hLB2 hk5 hn5 hz_ hkk_ hS => ?_)
    have hP : va_P D oc_cl ([(q_1, .inr (5, [.ref q_9])), (r, .inr (1, [.ref tx, .int (nI N), .int (nI j2), .int (nI b), .int (nI dd)]))] : va_W) H := hP.kept (fun k9 q9 h9 => hkk_ q9.1 (hP k9 q9 h9).lt (hne_ q9 (List.mem_of_getElem? h9)).1 (hne_ q9 (List.mem_of_getElem? h9)).2)
    have hPt : va_P D oc_cl ([(tx, .inl (d 2, 300, .inl T))] : va_W) H := od_keep hPt_0 hPt_n hS
    refine W.eq (g2 := F0 m 19 ls [.int 1]) rfl ?_
    refine lv_pop hx hb dX2_rule_19 rfl ?_
    have lp20 : ∀ (n : Nat) (j : Nat) (ss : List od_Sm) (ar : Nat) (cp : Nat) (el : Nat → Option Nat) (ce : Nat) (sl : Nat), (i < j ∧ j ≤ N) → (N + 1 ≤ j + n) → (1 ≤ ss.length ∧ ss.length ≤ j - i) → (od_BH T T6 N j dd k) → (od_RR f b dd i j (od_any ss)) → (ce + 4 ≤ 20 * (j - i)) → (sl + 100 * ss.length ≤ 4 + 4 * cp + 300 * (j - i)) → (¬ od_lk T N j = 38) → ∀ (H : Heap) (locs : List Loc), va_P D oc_cl ([(q_1, .inr (5, [.ref q_9])), (r, .inr (1, [.ref tx, .int (nI N), .int (nI j), .int (nI b), .int (nI dd)]))] : va_W) H → va_D A ([(q_1, .inr (5, [.ref q_9])), (r, .inr (1, [.ref tx, .int (nI N), .int (nI j), .int (nI b), .int (nI dd)]))] : va_W) → va_S A s.heap H locs → od_LB D d E0 (od_dT D d E0 f b nm ed) (Array.size s.heap) q_1 H q_9 ar cp el ss → ∀ (ls : Array Slot), lv_has ls 2 [(0, .ref r), (1, .ref q_1)] → W p l e (oc_rm (FR + 8) (LO + 160) (20 * (N - i) + 20) (300 * (N - i) + 120)) s m ([.ref r] : List Value).toArray below meth c H locs ce sl (oc_Q A below s (od_RT (od_PP D r tx N T T6 b dd k i s.heap A (od_dR D d E0 f b nm ed) (od_RR f b dd) 4 40 (fun j => ¬ od_lk T N j = 38 ∧ ¬ od_lk T N j = 124)) (od_QQ s0 D r tx N T T6 b i s.heap A 20 120))) (F0 m 20 ls []) := by
      intro n
      induction n with
      | zero => intro j ss ar cp el ce sl hj hn hm hBH hRS hce hsl hX H locs hP hD hS hLB ls hl; exact absurd hn (by omega)
      | succ n ih20 =>
        intro j ss ar cp el ce sl hj hn hm hBH hRS hce hsl hX H locs hP hD hS hLB ls hl
        have hPt : va_P D oc_cl ([(tx, .inl (d 2, 300, .inl T))] : va_W) H := od_keep hPt_0 hPt_n hS
        have hcp9 := hLB.2.1
        refine lv_aload_n hx hb dX2_rule_20 rfl (lv_at hl 0 rfl) ?_
        refine oc_callR1 hx hb hml hl.1 ⟨hok, hS, hN0⟩ (oc_iV (As := []) (rest := []) hx hb hown (hts _ q219) (hts _ q221) (hts _ qs3) (oc_Sig.of (hts _ q222) (by decide +kernel : (parseMethodDescriptor "()I").map (fun d => d.parameters.length) = some 0)) (va_recv hK hP (ci := 1) (q0 := 1) rfl rfl) ⟨by decide, by decide⟩ dX2_rule_21 rfl) (oc_M.of (by decide +kernel) (hts _ q222)) (kX2_look G r tx N j (nI b) (nI dd) T hN3 (by omega) (oc_Pc (hP 1 _ rfl) hPt)) dX2_rule_21 (by dsimp only [oc_rm]; omega) (by simp only [oc_rm, List.map_cons, List.map_nil, List.sum_cons, List.sum_nil, Value.category]; omega) (by dsimp only [oc_rm]; omega) (by dsimp only [oc_rm]; omega) ?_
        refine lv_bipush (v := 124) hx hb dX2_rule_24 (by decide) ?_
        refine lv_icmp_ne (x := od_lk T N j) (y := 124) (tgt := 54) hx hb dX2_rule_26 (by decide) (fun c26 => ?_) (fun c26 => ?_)
        · -- taken
          refine lv_aload_n hx hb dX2_rule_54 rfl (lv_at hl 1 rfl) ?_
          exact oc_aret hx hb hr (Or.inl ⟨_, rfl⟩) (Or.inr ⟨_, rfl⟩) hlocks hS dX2_rule_55 (Or.inl ⟨_, rfl, j, q_1, od_any ss, rfl, hj.1, hj.2, hP.sub [1] rfl, hD.sub [1] rfl rfl, hBH, ⟨ss, hLB.done (od_NdT (d := d) (E0 := E0) (f := f) (b := b) (nm := nm) (e := ed)) hq1 (hP 0 _ rfl), rfl⟩, hRS, by omega, by omega, ⟨hX, c26⟩⟩)
        · -- not taken
          obtain ⟨hjN, hTj⟩ := od_lki c26 (by decide)
          have hAH := od_more hBH hjN (by rw [hTj]; decide)
          refine lv_aload_n hx hb dX2_rule_29 rfl (lv_at hl 0 rfl) ?_
          refine lv_dup hx hb dX2_rule_30 rfl ?_
          refine va_get (D := D) (ci := 1) (v := .int (nI j)) (C := RX2) (T := TX2) (N := 5) hx hb hts in_X2 hown hK hP 1 rfl rfl 2 (by decide) (hts _ q73) (fun _ h9 => h9) rfl dX2_rule_31 ?_
          refine lv_iconst (v := 1) hx hb dX2_rule_34 (by decide) ?_
          refine lv_iadd hx hb dX2_rule_35 ?_
          refine oc_topi (x := (nI j) + 1) (y := nI (j + 1)) (nI_1 j) ?_
          refine oc_put (D := D) (ci := 1) (v := .int (nI (j + 1))) (ty := .int) (C := RX2) (T := TX2) (N := 5) hx hb hts in_X2 tyX2 tyX2_ok nmX2 hown hK hP hD hS 1 rfl rfl 2 (by decide) (hts _ q73) (fun _ h9 => h9) rfl (by decide +kernel) rfl rfl (Nat.le_of_ble_eq_true rfl) dX2_rule_36 (fun H locs hz2 ho2 hP hD hS => ?_)
          have hP : va_P D oc_cl ([(q_1, .inr (5, [.ref q_9])), (r, .inr (1, [.ref tx, .int (nI N), .int (nI (j + 1)), .int (nI b), .int (nI dd)]))] : va_W) H := hP
          have hD : va_D A ([(q_1, .inr (5, [.ref q_9])), (r, .inr (1, [.ref tx, .int (nI N), .int (nI (j + 1)), .int (nI b), .int (nI dd)]))] : va_W) := hD
          have hPt : va_P D oc_cl ([(tx, .inl (d 2, 300, .inl T))] : va_W) H := od_keep hPt_0 hPt_n hS
          have hLB := hLB.kept (od_NdT (d := d) (E0 := E0) (f := f) (b := b) (nm := nm) (e := ed)) (by omega) (fun z9 h8 h9 => ho2 z9 (by omega))
          refine lv_aload_n hx hb dX2_rule_39 rfl (lv_at hl 1 rfl) ?_
          refine va_getN (D := D) (ci := 5) (v := .ref q_9) (C := RX6) (T := TX6) (N := 1) hx hb hts in_X6 hown hK hP 0 rfl rfl 0 (by decide) (oc_wF G hok q311) (fun _ h9 => h9) rfl dX2_rule_40 ?_
          refine lv_aload_n hx hb dX2_rule_43 rfl (lv_at hl 0 rfl) ?_
          have hF_ : ∀ q, va_A ([(r, .inr (1, [.ref tx, .int (nI N), .int (nI (j + 1)), .int (nI b), .int (nI dd)]))] : va_W) (Array.size H) q → A q := va_free hD hS hA [1] rfl
          have hsz_ := hS.1
          refine oc_callRT (A1 := va_A ([(r, .inr (1, [.ref tx, .int (nI N), .int (nI (j + 1)), .int (nI b), .int (nI dd)]))] : va_W) (Array.size H)) hx hb hml hl.1 ⟨hok, hS, hN0⟩ (oc_iS (As := [.ref r]) (rest := [.ref q_9]) hx hb hown (hts _ q315) (hts _ q316) (hts _ q25) (hts _ q317) ⟨by decide, by decide, (by decide +kernel : (parseMethodDescriptor "(LOriginRules$Reader;)LOriginRules$Node;").map (fun d => d.parameters.length) = some 1)⟩ dX2_rule_44 rfl) (oc_M.of (by decide +kernel) (hts _ q317)) (hTer H (j + 1) hAH (by omega) (hP.sub [1] rfl) (hPt 0 _ rfl)) hF_ dX2_rule_44 (by dsimp only [oc_rm]; omega) (by simp only [oc_rm, List.map_cons, List.map_nil, List.sum_cons, List.sum_nil, Value.category]; omega) (by dsimp only [oc_rm]; omega) (by dsimp only [oc_rm]; omega) (fun v_ H locs k_ n_ hp_ hz_ hk_ hS => ?_) (fun a_ H locs k_ n_ hp_ hz_ hk_ hS => ?_)
          · -- a node
            obtain ⟨j2, a2, S2, rfl, hj2a, hj2b, hP1, hD1, hBH2, hNd2, hRS2, hck2, hcn2, hX2⟩ := hp_
            obtain ⟨hP, hD⟩ := va_join (w1 := ([(r, .inr (1, [.ref tx, .int (nI N), .int (nI j2), .int (nI b), .int (nI dd)]))] : va_W)) (wr := ([(q_1, .inr (5, [.ref q_9]))] : va_W)) hP hD [1] [0] rfl rfl rfl (by decide) hk_ hF_ hP1 hD1
            have hP : va_P D oc_cl ([(q_1, .inr (5, [.ref q_9])), (r, .inr (1, [.ref tx, .int (nI N), .int (nI j2), .int (nI b), .int (nI dd)]))] : va_W) H := hP
            have hD : va_D A ([(q_1, .inr (5, [.ref q_9])), (r, .inr (1, [.ref tx, .int (nI N), .int (nI j2), .int (nI b), .int (nI dd)]))] : va_W) := hD
            have hPt : va_P D oc_cl ([(tx, .inl (d 2, 300, .inl T))] : va_W) H := od_keep hPt_0 hPt_n hS
            have hNd3 := od_LBn (od_NdT (d := d) (E0 := E0) (f := f) (b := b) (nm := nm) (e := ed)) hLB hsz_ hNd2
            have hLB := hLB.kept (od_NdT (d := d) (E0 := E0) (f := f) (b := b) (nm := nm) (e := ed)) hz_ (fun z h1 h2 => hk_ z h2 (fun h3 => od_nr (by omega) h2 h3))
            refine W.eq (g2 := F0 m 47 ls [.ref a2, .ref q_9]) rfl ?_
            have hne_ := od_LBk hLB (ws := ([(q_1, .inr (5, [.ref q_9])), (r, .inr (1, [.ref tx, .int (nI N), .int (nI j2), .int (nI b), .int (nI dd)]))] : va_W)) (fun x9 hx9 => by simp only [List.mem_cons, List.not_mem_nil, or_false] at hx9; rcases hx9 with rfl | rfl; exact Or.inl rfl; exact Or.inr hrs)
            have hsz_ := hS.1
            refine od_addN (y := a2) (od_NdT (d := d) (E0 := E0) (f := f) (b := b) (nm := nm) (e := ed)) G hE hM0 hx hb hml hl.1 ⟨hok, hS, hN0⟩ (oc_iV (As := [.ref a2]) (rest := []) hx hb hown (hts _ q384) (hts _ q385) (hts _ q386) (oc_Sig.of (hts _ q387) (by decide +kernel : (parseMethodDescriptor "(Ljava/lang/Object;)Z").map (fun d => d.parameters.length) = some 1)) (od_recv hK hLB.1) ⟨by decide, by decide⟩ dX2_rule_47 rfl) (oc_M.of (by decide +kernel) (hts _ q387)) hLB (by omega) hs00 hA hS.1 hNd3 dX2_rule_47 (by dsimp only [oc_rm]; omega) (by simp only [oc_rm, List.map_cons, List.map_nil, List.sum_cons, List.sum_nil, Value.category]; omega) (by dsimp only [oc_rm]; omega) (by simp only [oc_rm, List.length_nil]; omega) (fun H locs k_5 n_5 ar2 cp2 el2 hLB2 hk5 hn5 hz_ hkk_ hS => ?_)
            have hP : va_P D oc_cl ([(q_1, .inr (5, [.ref q_9])), (r, .inr (1, [.ref tx, .int (nI N), .int (nI j2), .int (nI b), .int (nI dd)]))] : va_W) H := hP.kept (fun k9 q9 h9 => hkk_ q9.1 (hP k9 q9 h9).lt (hne_ q9 (List.mem_of_getElem? h9)).1 (hne_ q9 (List.mem_of_getElem? h9)).2)
            have hPt : va_P D oc_cl ([(tx, .inl (d 2, 300, .inl T))] : va_W) H := od_keep hPt_0 hPt_n hS
            refine W.eq (g2 := F0 m 50 ls [.int 1]) rfl ?_
            refine lv_pop hx hb dX2_rule_50 rfl ?_
            refine lv_goto (tgt := 20) hx hb dX2_rule_51 (by decide) ?_
            exact ih20 j2 (ss ++ [S2]) ar2 cp2 el2 (ce + k_ + k_5) (sl + n_ + n_5) (⟨by omega, hj2b⟩) (by omega) (⟨by simp, by simp; omega⟩) hBH2 (od_RRor hRS (by rw [hTf _ hjN]; exact hTj) hRS2) (by omega) (by simp only [List.length_append, List.length_singleton]; omega) hX2 H locs hP hD hS hLB2 ls (lv_sub hl [0, 1] rfl)
          · -- wrong
            obtain ⟨pp, de2, hpp1, hpp2, hsz9, hex9, hP1, hD1, hER, hck2, hcn2⟩ := hp_
            obtain ⟨hP, hD⟩ := va_join (w1 := ([(r, .inr (1, [.ref tx, .int (nI N), .int (nI pp), .int (nI b), .int de2]))] : va_W)) (wr := ([(q_1, .inr (5, [.ref q_9]))] : va_W)) hP hD [1] [0] rfl rfl rfl (by decide) hk_ hF_ hP1 hD1
            have hP : va_P D oc_cl ([(q_1, .inr (5, [.ref q_9])), (r, .inr (1, [.ref tx, .int (nI N), .int (nI pp), .int (nI b), .int de2]))] : va_W) H := hP
            have hD : va_D A ([(q_1, .inr (5, [.ref q_9])), (r, .inr (1, [.ref tx, .int (nI N), .int (nI pp), .int (nI b), .int de2]))] : va_W) := hD
            have hPt : va_P D oc_cl ([(tx, .inl (d 2, 300, .inl T))] : va_W) H := od_keep hPt_0 hPt_n hS
            exact oc_xout hlocks (by rw [htab]; intro x9 hx9; cases hx9) hS (Or.inr ⟨_, rfl, pp, de2, by omega, hpp2, by omega, hex9, hP.sub [1] rfl, hD.sub [1] rfl rfl, hER, by omega, by omega⟩)
    exact lp20 (N + 1) j2 ([S2]) ar2 cp2 el2 (0 + 1 + 1 + k_ + k_5) (0 + 1 + 3 + n_ + n_5) (⟨hj2a, hj2b⟩) (by omega) (⟨by simp, by simp; omega⟩) hBH2 (od_RRone hRS2) (by omega) (by simp; omega) hX2 H locs hP hD hS hLB2 ls (lv_sub hl [1, 0] rfl)
  · -- wrong
    obtain ⟨pp, de2, hpp1, hpp2, hsz9, hex9, hP1, hD1, hER, hck2, hcn2⟩ := hp_
    obtain ⟨hP, hD⟩ := va_join (w1 := ([(r, .inr (1, [.ref tx, .int (nI N), .int (nI pp), .int (nI b), .int de2]))] : va_W)) (wr := ([(q_1, .inr (5, [.ref q_9]))] : va_W)) hP hD [0] [1] rfl rfl rfl (by decide) hk_ hF_ hP1 hD1
    have hP : va_P D oc_cl ([(q_1, .inr (5, [.ref q_9])), (r, .inr (1, [.ref tx, .int (nI N), .int (nI pp), .int (nI b), .int de2]))] : va_W) H := hP
    have hD : va_D A ([(q_1, .inr (5, [.ref q_9])), (r, .inr (1, [.ref tx, .int (nI N), .int (nI pp), .int (nI b), .int de2]))] : va_W) := hD
    have hPt : va_P D oc_cl ([(tx, .inl (d 2, 300, .inl T))] : va_W) H := od_keep hPt_0 hPt_n hS
    exact oc_xout hlocks (by rw [htab]; intro x9 hx9; cases hx9) hS (Or.inr ⟨_, rfl, pp, de2, by omega, hpp2, by omega, hex9, hP.sub [1] rfl, hD.sub [1] rfl rfl, hER, by omega, by omega⟩)
