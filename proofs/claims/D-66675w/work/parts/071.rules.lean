/-! ===== rules of any depth; what a row is ===== -/
section ORU
variable {l : Launch} {s0 : State} {b0 : Addr} {D : va_G} {d : Nat → ClassId} {E0 mi r tx N b k : Nat} {T T6 f nm : Nat → Int32}
theorem od_rD {r tx N : Nat} {i be de : Int32} (sz : Nat) : va_D (va_A (od_rW r tx N i be de) sz) (od_rW r tx N i be de) := oc_Dc (va_A.in (k := 0) rfl) oc_D0 (fun x hx => absurd hx List.not_mem_nil)
theorem od_rN {s0 : State} {r tx N : Nat} {i be de : Int32} (h : s0.heap.size ≤ r) : ∀ z ∈ od_rW r tx N i be de, s0.heap.size ≤ z.1 := by
  intro z hz
  simp only [List.mem_cons, List.not_mem_nil, or_false] at hz
  subst hz
  exact h
theorem od_parse (G : oc_G l s0 b0 D d) (hE : oc_E s0 E0) (hM0 : va_Mi "[Ljava/lang/Object;" mi s0) (hN3 : N ≤ 300) (hr0 : s0.heap.size ≤ r) (htr : tx ≠ r) (hTf : ∀ q, q < N → f q = T q) (hnm : ∀ q j, 1 ≤ j → od_ds T N (q + 1) j → oc_dig (od_lk T N (q + 1 + j)) = false → nm q = oc_nm T (q + 1) j) :
    ∀ ed dd, dd + ed = 8 → od_Kf l s0 D d r tx N T T6 b dd k yX2_rule (36 + 36 * ed) (620 + 620 * ed) 20 120 (od_dR D d E0 f b nm ed) (od_RR f b dd) 4 40 (fun j => ¬ od_lk T N j = 38 ∧ ¬ od_lk T N j = 124) := by
  intro ed
  have key : ∀ ed dd FR LO, dd + ed = 8 → (dd < 8 → ∃ e9, ed = e9 + 1 ∧ od_Kf l s0 D d r tx N T T6 b (dd + 1) k yX2_rule FR LO 20 120 (od_dR D d E0 f b nm e9) (od_RR f b (dd + 1)) 4 40 (fun j => ¬ od_lk T N j = 38 ∧ ¬ od_lk T N j = 124)) →
      od_Kf l s0 D d r tx N T T6 b dd k yX2_rule (FR + 36) (LO + 620) 20 120 (od_dR D d E0 f b nm ed) (od_RR f b dd) 4 40 (fun j => ¬ od_lk T N j = 38 ∧ ¬ od_lk T N j = 124) := by
    intro ed dd FR LO hdd hR
    have hF : od_Kf l s0 D d r tx N T T6 b dd k yX2_factor (FR + 20) (LO + 300) 1 6 (od_dF D d E0 f b nm ed) (od_RS f b dd) 10 200 (fun _ => True) := by
      intro H i hAH hi hP ht
      exact kX2_factor G r tx N i b dd k ed FR LO T T6 f nm E0 hN3 hi hdd hAH hP (od_rD _) (od_rN hr0) (oc_P1 ht) (od_dtr htr) hTf hnm hR
    have hT : od_Kf l s0 D d r tx N T T6 b dd k yX2_term (FR + 20 + 8) (LO + 300 + 160) 10 60 (od_dT D d E0 f b nm ed) (od_RS f b dd) 7 100 (fun j => ¬ od_lk T N j = 38) := by
      intro H i hAH hi hP ht
      exact kX2_term G r tx N i b dd k ed (FR + 20) (LO + 300) mi T T6 f nm hN3 hi hAH hM0 hP (od_rD _) (od_rN hr0) (oc_P1 ht) (od_dtr htr) hE hTf hF
    intro H i hAH hi hP ht
    exact kX2_rule G r tx N i b dd k ed (FR + 20 + 8) (LO + 300 + 160) mi T T6 f nm hN3 hi hAH hM0 hP (od_rD _) (od_rN hr0) (oc_P1 ht) (od_dtr htr) hE hTf hT
  induction ed with
  | zero =>
    intro dd hdd
    exact key 0 dd 0 0 hdd (fun h => absurd hdd (by omega))
  | succ ed ih =>
    intro dd hdd
    have h1 := key (ed + 1) dd (36 + 36 * ed) (620 + 620 * ed) hdd (fun h => ⟨ed, rfl, ih (dd + 1) (by omega)⟩)
    rw [show 36 + 36 * (ed + 1) = 36 + 36 * ed + 36 by omega, show 620 + 620 * (ed + 1) = 620 + 620 * ed + 620 by omega]
    exact h1
end ORU
section OROW
variable {T T6 : Nat → Int32} {N : Nat}
theorem od_rdk (q : Nat) : (rd_it T T6 q).2.2.2.2.1 ≤ (rd_it T T6 (q + 1)).2.2.2.2.1 := by
  show _ ≤ (rd_st T q (rd_it T T6 q)).2.2.2.2.1
  rcases rd_it T T6 q with ⟨y, w, g, v, k, u, X⟩
  exact Nat.le_add_right _ _
theorem od_rdk2 (q n : Nat) : (rd_it T T6 q).2.2.2.2.1 ≤ (rd_it T T6 (q + n)).2.2.2.2.1 := by
  induction n with
  | zero => exact Nat.le_refl _
  | succ n ih => exact Nat.le_trans ih (od_rdk (q + n))
theorem od_rdu {q : Nat} (hq : q < 2147483647) (h : (rd_it T T6 (q + 1)).2.2.2.2.2.1 = -1) : (rd_it T T6 q).2.2.2.2.2.1 = -1 := by
  have h2 : (rd_st T q (rd_it T T6 q)).2.2.2.2.2.1 = -1 := h
  rcases hz : rd_it T T6 q with ⟨y, w, g, v, k, u, X⟩
  rw [hz] at h2
  have h3 : (if 0 ≤ rd_nx y (T q) w g v k then u else nI q) = -1 := h2
  split at h3
  · exact h3
  · exact absurd (show (nI q : Int32) < 0 by rw [h3]; decide) (od_nn (by omega))
theorem od_rdu2 {q n : Nat} (hq : q + n < 2147483647) (h : (rd_it T T6 (q + n)).2.2.2.2.2.1 = -1) : (rd_it T T6 q).2.2.2.2.2.1 = -1 := by
  induction n with
  | zero => exact h
  | succ n ih => exact ih (by omega) (od_rdu (q := q + n) (by omega) h)
/-- in a rule there is no ';' -/
theorem od_no59 {p1 p2 : Nat} {w1 g1 v1 y2 w2 g2 v2 : Int32} {k : Nat} (h1 : od_AU T T6 p1 2 w1 g1 v1 k) (h2 : od_AU T T6 p2 y2 w2 g2 v2 k) (hp : p2 < 1000) : ∀ n, p1 + n < p2 → (∃ y w g v, od_AU T T6 (p1 + n) y w g v k ∧ (y = 2 ∨ y = 3 ∨ y = 4 ∨ y = 5)) ∧ ¬ T (p1 + n) = 59 := by
  obtain ⟨X2, hX2⟩ := h2
  have step : ∀ x, x < p2 → ∀ y w g v, od_AU T T6 x y w g v k → (y = 2 ∨ y = 3 ∨ y = 4 ∨ y = 5) → (∃ y w g v, od_AU T T6 (x + 1) y w g v k ∧ (y = 2 ∨ y = 3 ∨ y = 4 ∨ y = 5)) ∧ ¬ T x = 59 := by
    intro x hx y w g v hA hy
    have hu1 : (rd_it T T6 (x + 1)).2.2.2.2.2.1 = -1 := od_rdu2 (q := x + 1) (n := p2 - (x + 1)) (by omega) (by rw [show x + 1 + (p2 - (x + 1)) = p2 by omega, hX2])
    have hk1 : (rd_it T T6 (x + 1)).2.2.2.2.1 ≤ k := by
      have := od_rdk2 (T := T) (T6 := T6) (x + 1) (p2 - (x + 1))
      rw [show x + 1 + (p2 - (x + 1)) = p2 by omega, hX2] at this
      exact this
    obtain ⟨X, hX⟩ := hA
    have e1 : rd_it T T6 (x + 1) = rd_st T x (y, w, g, v, k, -1, X) := by show rd_st T x (rd_it T T6 x) = _; rw [hX]
    rw [e1] at hu1 hk1
    have hn0 : 0 ≤ rd_nx y (T x) w g v k := by
      have h3 : (if 0 ≤ rd_nx y (T x) w g v k then (-1 : Int32) else nI x) = -1 := hu1
      split at h3
      · assumption
      · exact absurd (show (nI x : Int32) < 0 by rw [h3]; decide) (od_nn (by omega))
    have hn1 : ¬ rd_nx y (T x) w g v k = 0 := by
      intro z
      have h3 : k + (if rd_nx y (T x) w g v k = 0 then 1 else 0) ≤ k := hk1
      rw [if_pos z] at h3
      omega
    have hbeh : ∀ c w, oc_beh c w = 2 ∨ oc_beh c w = 3 ∨ oc_beh c w = 0 ∨ oc_beh c w = -1 := by
      intro c w
      unfold oc_beh
      split
      · exact Or.inl rfl
      · split
        · exact Or.inr (Or.inl rfl)
        · split
          · exact Or.inr (Or.inr (Or.inl rfl))
          · exact Or.inr (Or.inr (Or.inr rfl))
    have hahd : ∀ c w, oc_ahd c w = 2 ∨ oc_ahd c w = 3 ∨ oc_ahd c w = 4 ∨ oc_ahd c w = 5 ∨ oc_ahd c w = -1 := by
      intro c w
      unfold oc_ahd
      split
      · exact Or.inr (Or.inl rfl)
      · split
        · exact Or.inr (Or.inr (Or.inl rfl))
        · split
          · exact Or.inr (Or.inr (Or.inr (Or.inl rfl)))
          · split
            · exact Or.inl rfl
            · exact Or.inr (Or.inr (Or.inr (Or.inr rfl)))
    have hfin : ∀ z, (z = 2 ∨ z = 3 ∨ z = 0 ∨ z = -1) → rd_nx y (T x) w g v k = z → (z = 2 ∨ z = 3 ∨ z = 4 ∨ z = 5) := by
      intro z hz e
      rcases hz with c | c | c | c
      · exact Or.inl c
      · exact Or.inr (Or.inl c)
      · exact absurd (e.trans c) hn1
      · rw [e, c] at hn0; exact absurd hn0 od_nm1
    have hb59 : ∀ w, oc_beh 59 w = 0 ∨ oc_beh 59 w = -1 := by
      intro w
      unfold oc_beh
      rw [if_neg (by decide), if_neg (by rintro ⟨z, -⟩; exact absurd z (by decide))]
      split
      · exact Or.inl rfl
      · exact Or.inr rfl
    have hy0 : ¬ y = 0 ∧ ¬ y = 1 := by rcases hy with c | c | c | c <;> rw [c] <;> decide
    have hnx : (rd_nx y (T x) w g v k = 2 ∨ rd_nx y (T x) w g v k = 3 ∨ rd_nx y (T x) w g v k = 4 ∨ rd_nx y (T x) w g v k = 5) ∧ ¬ T x = 59 := by
      by_cases y2 : y = 2
      · have e : rd_nx y (T x) w g v k = oc_ahd (T x) w := by unfold rd_nx; rw [if_neg hy0.1, if_neg hy0.2, if_pos y2]
        refine ⟨?_, fun z => ?_⟩
        · rw [e]
          rcases hahd (T x) w with c | c | c | c | c
          · exact Or.inl c
          · exact Or.inr (Or.inl c)
          · exact Or.inr (Or.inr (Or.inl c))
          · exact Or.inr (Or.inr (Or.inr c))
          · rw [e, c] at hn0; exact absurd hn0 od_nm1
        · rw [e, z] at hn0
          unfold oc_ahd at hn0
          rw [if_neg (by decide), if_neg (by decide), if_neg (by decide), if_neg (by rintro ⟨c, -⟩; exact absurd c (by decide))] at hn0
          exact od_nm1 hn0
      · have e : rd_nx y (T x) w g v k = oc_beh (T x) w ∨ rd_nx y (T x) w g v k = -1 ∨ (rd_nx y (T x) w g v k = y ∧ oc_dig (T x) = true) := by
          unfold rd_nx
          rw [if_neg hy0.1, if_neg hy0.2, if_neg y2]
          by_cases y3 : y = 3
          · rw [if_pos y3]; exact Or.inl rfl
          · rw [if_neg y3]
            by_cases c : oc_dig (T x) = true ∧ ¬ (if y = 4 then 3 else 2) ≤ g
            · rw [if_pos c]; exact Or.inr (Or.inr ⟨rfl, c.1⟩)
            · rw [if_neg c]
              by_cases c2 : ¬ g ≤ 0 ∧ ¬ (if y = 4 then 100 else 15) < v
              · rw [if_pos c2]; exact Or.inl rfl
              · rw [if_neg c2]; exact Or.inr (Or.inl rfl)
        rcases e with e | e | ⟨e, e2⟩
        · refine ⟨by rw [e]; exact hfin _ (hbeh _ _) e, fun z => ?_⟩
          rw [z] at e
          rcases hb59 w with c | c
          · exact hn1 (by rw [z]; exact e.trans c)
          · rw [z, e, c] at hn0; exact od_nm1 hn0
        · rw [e] at hn0; exact absurd hn0 od_nm1
        · exact ⟨by rw [e]; exact hy, fun z => by rw [z] at e2; exact absurd e2 (by decide)⟩
    have h4 := od_AU_s (T := T) (T6 := T6) ⟨X, hX⟩ hn0
    rw [if_neg hn1] at h4
    exact ⟨⟨_, _, _, _, h4, hnx.1⟩, hnx.2⟩
  intro n
  induction n with
  | zero =>
    intro hlt
    exact ⟨⟨2, w1, g1, v1, h1, Or.inl rfl⟩, (step p1 hlt _ _ _ _ h1 (Or.inl rfl)).2⟩
  | succ n ih =>
    intro hlt
    obtain ⟨⟨y, w, g, v, hA, hy⟩, -⟩ := ih (by omega)
    have h5 := (step (p1 + n) (by omega) _ _ _ _ hA hy).1
    obtain ⟨y', w', g', v', hA', hy'⟩ := h5
    exact ⟨⟨y', w', g', v', hA', hy'⟩, (step (p1 + (n + 1)) hlt _ _ _ _ hA' hy').2⟩
/-- where a row begins stays noted -/
theorem od_Xfix {i r : Nat} {w g v : Int32} (hi : od_AU T T6 i 0 w g v r) {p2 : Nat} (hp : i < p2) (hp3 : p2 < 1000) (hu : (rd_it T T6 p2).2.2.2.2.2.1 = -1) : (rd_it T T6 p2).2.2.2.2.2.2 r = nI i := by
  have key : ∀ n, i + 1 + n ≤ p2 → (rd_it T T6 (i + 1 + n)).2.2.2.2.2.2 r = nI i ∧ r ≤ (rd_it T T6 (i + 1 + n)).2.2.2.2.1 ∧ ((rd_it T T6 (i + 1 + n)).1 = 0 → r < (rd_it T T6 (i + 1 + n)).2.2.2.2.1) := by
    intro n
    induction n with
    | zero =>
      intro hle
      obtain ⟨X, hX⟩ := hi
      have hu1 : (rd_it T T6 (i + 1)).2.2.2.2.2.1 = -1 := od_rdu2 (q := i + 1) (n := p2 - (i + 1)) (by omega) (by rw [show i + 1 + (p2 - (i + 1)) = p2 by omega]; exact hu)
      have e1 : rd_it T T6 (i + 1) = rd_st T i (0, w, g, v, r, -1, X) := by show rd_st T i (rd_it T T6 i) = _; rw [hX]
      show (rd_it T T6 (i + 1)).2.2.2.2.2.2 r = nI i ∧ r ≤ (rd_it T T6 (i + 1)).2.2.2.2.1 ∧ ((rd_it T T6 (i + 1)).1 = 0 → r < (rd_it T T6 (i + 1)).2.2.2.2.1)
      rw [e1] at hu1 ⊢
      have hn : rd_nx 0 (T i) w g v r = 1 ∨ rd_nx 0 (T i) w g v r = -1 := by
        unfold rd_nx
        rw [if_pos rfl]
        split
        · exact Or.inl rfl
        · exact Or.inr rfl
      have hn1 : rd_nx 0 (T i) w g v r = 1 := by
        rcases hn with c | c
        · exact c
        · have h3 : (if 0 ≤ rd_nx 0 (T i) w g v r then (-1 : Int32) else nI i) = -1 := hu1
          rw [c, if_neg od_nm1] at h3
          exact absurd (show (nI i : Int32) < 0 by rw [h3]; decide) (od_nn (by omega))
      refine ⟨?_, Nat.le_add_right _ _, fun z => ?_⟩
      · show (if (0 : Int32) = 0 then upd X r (nI i) else X) r = nI i
        rw [if_pos rfl]
        simp [upd]
      · have z2 : (if 0 ≤ rd_nx 0 (T i) w g v r then rd_nx 0 (T i) w g v r else 0) = 0 := z
        rw [hn1, if_pos (by decide)] at z2
        exact absurd z2 (by decide)
    | succ n ih =>
      intro hle
      obtain ⟨a1, a2, a3⟩ := ih (by omega)
      rcases hz : rd_it T T6 (i + 1 + n) with ⟨y, w', g', v', k', u', X'⟩
      rw [hz] at a1 a2 a3
      have e1 : rd_it T T6 (i + 1 + (n + 1)) = rd_st T (i + 1 + n) (y, w', g', v', k', u', X') := by show rd_st T (i + 1 + n) (rd_it T T6 (i + 1 + n)) = _; rw [hz]
      have a1 : X' r = nI i := a1
      have a2 : r ≤ k' := a2
      have a3 : y = 0 → r < k' := a3
      rw [e1]
      refine ⟨?_, Nat.le_trans a2 (Nat.le_add_right _ _), fun z => ?_⟩
      · show (if y = 0 then upd X' k' (nI (i + 1 + n)) else X') r = nI i
        split
        · rename_i y0
          have := a3 y0
          simp only [upd, show ¬ r = k' by omega, if_false]
          exact a1
        · exact a1
      · show r < k' + (if rd_nx y (T (i + 1 + n)) w' g' v' k' = 0 then 1 else 0)
        have z2 : (if 0 ≤ rd_nx y (T (i + 1 + n)) w' g' v' k' then rd_nx y (T (i + 1 + n)) w' g' v' k' else y) = 0 := z
        by_cases hn : rd_nx y (T (i + 1 + n)) w' g' v' k' = 0
        · rw [if_pos hn]; omega
        · rw [if_neg hn]
          split at z2
          · exact absurd z2 hn
          · have := a3 z2; omega
  have h9 := (key (p2 - (i + 1)) (by omega)).1
  rw [show i + 1 + (p2 - (i + 1)) = p2 by omega] at h9
  exact h9
end OROW
