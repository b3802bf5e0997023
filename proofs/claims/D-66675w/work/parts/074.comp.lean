/-! ===== OriginRules: its six steady cells; how they are told ===== -/
abbrev od_cW (d : Nat → ClassId) (u : Nat → Nat) (rw : Nat) (cd : Int32) (pr : Int64) (at0 be de : Int32) (I : Nat → Int32) (F : Nat → Nat → Int32) : va_W :=
  [(u 0, .inr (0, [.ref (u 1), .ref rw, .ref (u 3), .ref (u 7)])), (u 1, .inr (1, [.ref (u 2), .int (I 2), .int at0, .int be, .int de])), (u 2, .inl (d 2, 300, .inl (F 1))),
   (u 3, .inr (2, [.ref (u 6), .int (I 11), .int (I 12), .int (I 14), .int (I 15), .int (I 16), .int (I 17), .ref (u 4), .int cd, .long pr, .ref (u 5), .int (I 22)])), (u 4, .inl (d 1, 100, .inl (F 13))), (u 5, .inl (d 0, 300, .inl (F 23)))]
/-- behind a call: the six cells, told by I2 and F2 -/
def od_Pc (D : va_G) (d : Nat → ClassId) (u : Nat → Nat) (rw : Nat) (cd : Int32) (pr : Int64) (at0 be de : Int32) (A : Nat → Prop) (Φ : Option Value → (Nat → Int32) → (Nat → Nat → Int32) → Prop) : Option Value → Heap → Nat → Nat → Prop := fun v H1 k n => k = 0 ∧ n = 0 ∧ ∃ (I2 : Nat → Int32) (F2 : Nat → Nat → Int32), va_P D oc_cl (od_cW d u rw cd pr at0 be de I2 F2) H1 ∧ va_D A (od_cW d u rw cd pr at0 be de I2 F2) ∧ Φ v I2 F2
/-- it throws an object of the class C; the six cells stay -/
def od_Qc (s0 : State) (D : va_G) (d : Nat → ClassId) (u : Nat → Nat) (rw : Nat) (cd : Int32) (pr : Int64) (at0 be de : Int32) (I : Nat → Int32) (F : Nat → Nat → Int32) (H : Heap) (A : Nat → Prop) (Ψ : String → Prop) : Nat → Heap → Nat → Nat → Prop := fun a H1 k n => k ≤ 3 ∧ n ≤ 100 ∧ Array.size H ≤ a ∧ (∃ C, oc_Ex s0 C H1 a ∧ Ψ C) ∧ va_P D oc_cl (od_cW d u rw cd pr at0 be de I F) H1 ∧ va_D A (od_cW d u rw cd pr at0 be de I F)
theorem od_in32 {x a b : Int32} : oc_in x.toInt64 a.toInt64 b.toInt64 = true ↔ ¬ x < a ∧ ¬ b < x := by
  unfold oc_in
  simp only [Bool.and_eq_true, Bool.not_eq_true', decide_eq_false_iff_not, Int64.lt_iff_toInt_lt, Int32.lt_iff_toInt_lt, Int32.toInt_toInt64]
theorem od_nI1 {k : Nat} (h : k < 100000) : (nI k - 1).toInt = (k : Int) - 1 := by
  cases k with
  | zero => decide
  | succ k =>
    rw [show nI (k + 1) - 1 = nI k by rw [show (1 : Int32) = nI 1 from rfl, pk_sub (by omega), Nat.add_sub_cancel], nI_toInt (by omega)]
    omega
/-- in(x, 0, k - 1) -/
theorem od_in0 {x : Int32} {k : Nat} (h : k < 100000) : oc_in x.toInt64 0 (nI k - 1).toInt64 = true ↔ ∃ j, j < k ∧ x = nI j := by
  rw [show (0 : Int64) = (0 : Int32).toInt64 from rfl, od_in32]
  constructor
  · rintro ⟨h1, h2⟩
    obtain ⟨j, hj, rfl⟩ := nI_of h1
    refine ⟨j, ?_, rfl⟩
    rw [Int32.lt_iff_toInt_lt, od_nI1 h, nI_toInt hj] at h2
    omega
  · rintro ⟨j, hj, rfl⟩
    refine ⟨od_nn (by omega), ?_⟩
    rw [Int32.lt_iff_toInt_lt, od_nI1 h, nI_toInt (by omega)]
    omega
theorem od_char {x : Int32} (h : oc_in x.toInt64 33 126 = true) : ∃ j, j < 127 ∧ x = nI j := by
  rw [show (33 : Int64) = (33 : Int32).toInt64 from rfl, show (126 : Int64) = (126 : Int32).toInt64 from rfl, od_in32] at h
  have h0 : ¬ x < 0 := fun z => h.1 (by rw [Int32.lt_iff_toInt_lt] at z ⊢; have : (0 : Int32).toInt = 0 := rfl; have : (33 : Int32).toInt = 33 := rfl; omega)
  obtain ⟨j, hj, rfl⟩ := nI_of h0
  refine ⟨j, ?_, rfl⟩
  have h2 := h.2
  rw [Int32.lt_iff_toInt_lt, nI_toInt hj] at h2
  have : (126 : Int32).toInt = 126 := rfl
  omega
theorem od_c16 : ∀ j, j < 127 → ((nI j).toUInt32 % 65536).toInt32 = nI j ∧ vp_nar .char (nI j) = nI j := by decide +kernel
