/-! ===== a row: where it begins, its digits, where it ends, what it says ===== -/
abbrev od_Rd : Type := Nat × Nat × Nat × od_Sm
/-- what the text says of a row -/
def od_RwP (f T T6 : Nat → Int32) (N r : Nat) (x : od_Rd) : Prop := 1 ≤ x.2.1 ∧ x.2.1 ≤ 6 ∧ od_ds T N x.1 x.2.1 ∧ T (x.1 + x.2.1) = 58 ∧ x.1 + x.2.1 < x.2.2.1 ∧ x.2.2.1 < N ∧ T x.2.2.1 = 59 ∧ (∀ z, x.1 + x.2.1 < z → z < x.2.2.1 → ¬ T z = 59) ∧ od_RR f x.1 0 (x.1 + x.2.1 + 1) x.2.2.1 x.2.2.2 ∧ ∃ g v, od_AU T T6 x.1 0 0 g v r
/-- a row's object -/
abbrev od_dW (D : va_G) (d : Nat → ClassId) (E0 : Nat) (f nm T : Nat → Int32) : (Nat → Prop) → Heap → Nat → od_Rd → Prop := fun B H a x => B a ∧ ∃ nd, va_at D oc_cl (a, .inr (11, [.int (oc_nm T x.1 x.2.1), .int (nI x.2.1), .ref nd])) H ∧ od_dR D d E0 f x.1 nm 8 B H nd x.2.2.2
theorem od_NdW {D : va_G} {d : Nat → ClassId} {E0 : Nat} {f nm T : Nat → Int32} : od_NdK D (od_dW D d E0 f nm T) := by
  refine ⟨fun B H y x h => ?_, fun B B2 H H1 y x h h1 h2 => ?_⟩
  · obtain ⟨h0, nd, ha, -⟩ := h
    exact ⟨⟨_, _, ha⟩, h0⟩
  · obtain ⟨h0, nd, ha, hr⟩ := h
    exact ⟨h1 _ h0 ha.lt, nd, ha.kept (h2 _ h0 ha.lt), od_NdR.2 _ _ _ _ _ _ hr h1 h2⟩
theorem od_no59R {T T6 : Nat → Int32} {N i e k : Nat} {j : Nat} (h1 : od_AH T T6 i e k) (h2 : od_BH T T6 N j e k) (hN : N ≤ 300) (hj : j ≤ N) : ∀ z, i ≤ z → z < j → ¬ T z = 59 := by
  obtain ⟨g, v, h1⟩ := h1
  obtain ⟨y, g2, v2, h2, -⟩ := h2
  intro z a1 a2
  have := (od_no59 h1 h2 (by omega) (z - i) (by omega)).2
  rw [show i + (z - i) = z by omega] at this
  exact this
