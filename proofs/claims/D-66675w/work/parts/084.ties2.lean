/-! ===== plain ties: a row's digits and a code ===== -/
theorem od_dvN {X : Nat} (hX : X < 1000000) : ∀ j, od_dv (nI X) j = nI (X / 10 ^ j) := by
  intro j
  induction j with
  | zero => show nI X = nI (X / 10 ^ 0); rw [Nat.pow_zero, Nat.div_one]
  | succ j ih =>
    show od_dv (nI X) j / 10 = _
    have hl : X / 10 ^ j ≤ X := Nat.div_le_self _ _
    rw [ih, show (10 : Int32) = nI 10 from rfl, pk_div (by omega) (by omega) (by omega), Nat.div_div_eq_div_mul, Nat.pow_succ]
theorem od_digN {x : Int32} (h : oc_dig x = true) : ∃ t : Nat, t < 10 ∧ x = nI (48 + t) := by
  unfold oc_dig at h
  simp only [Bool.and_eq_true, Bool.not_eq_true', decide_eq_false_iff_not] at h
  obtain ⟨h1, h2⟩ := h
  have h0 : ¬ x < 0 := fun z => h1 (by rw [Int32.lt_iff_toInt_lt] at z ⊢; have : (0 : Int32).toInt = 0 := rfl; have : (48 : Int32).toInt = 48 := rfl; omega)
  obtain ⟨j, hj, rfl⟩ := nI_of h0
  rw [show (48 : Int32) = nI 48 from rfl, nI_ltI hj (by omega)] at h1
  rw [show (57 : Int32) = nI 57 from rfl, nI_ltI (by omega) hj] at h2
  exact ⟨j - 48, by omega, by rw [show 48 + (j - 48) = j by omega]⟩
theorem od_dgN {X j : Nat} (hX : X < 1000000) (hj : j < 6) : oc_dg (nI X) (nI (oc_p10 j)) = nI (X / 10 ^ (5 - j) % 10) := by
  have e : oc_p10 j = 10 ^ (5 - j) := by
    rcases (by omega : j = 0 ∨ j = 1 ∨ j = 2 ∨ j = 3 ∨ j = 4 ∨ j = 5) with rfl | rfl | rfl | rfl | rfl | rfl <;> decide
  have hp : 0 < 10 ^ (5 - j) := Nat.pow_pos (by omega)
  have hp2 : 10 ^ (5 - j) ≤ 10 ^ 5 := Nat.pow_le_pow_right (by omega) (by omega)
  have hp3 : (10 : Nat) ^ 5 = 100000 := by decide
  unfold oc_dg
  have hl : X / 10 ^ (5 - j) ≤ X := Nat.div_le_self _ _
  rw [e, pk_div (by omega) hp (by omega), show (10 : Int32) = nI 10 from rfl, pk_rem (by omega) (by omega) (by omega)]
/-- the first digits of a row make a number; they begin the code if it is the code's own -/
theorem od_bi {f : Nat → Int32} {X b : Nat} (hX : X < 1000000) : ∀ q, q ≤ 6 → (∀ m, m < q → oc_dig (f (b + m)) = true) → ∃ n : Nat, n < 10 ^ q ∧ oc_nm f b q = nI n ∧ (oc_bi f (nI X) b q = true ↔ n = X / 10 ^ (6 - q)) := by
  intro q
  induction q with
  | zero =>
    intro _ _
    refine ⟨0, by decide, rfl, fun _ => ?_, fun _ => rfl⟩
    rw [Nat.div_eq_of_lt (by simpa using hX)]
  | succ q ih =>
    intro hq hd
    obtain ⟨n, hn, e1, e2⟩ := ih (by omega) (fun m hm => hd m (by omega))
    obtain ⟨t, ht, e3⟩ := od_digN (hd q (by omega))
    have hp : (10 : Nat) ^ (q + 1) = 10 ^ q * 10 := Nat.pow_succ _ _
    have hp6 : (10 : Nat) ^ q ≤ 10 ^ 5 := Nat.pow_le_pow_right (by omega) (by omega)
    have hp5 : (10 : Nat) ^ 5 = 100000 := by decide
    have hsub : f (b + q) - 48 = nI t := by
      rw [e3, show (48 : Int32) = nI 48 from rfl, pk_sub (by omega), Nat.add_sub_cancel_left]
    refine ⟨10 * n + t, by omega, ?_, ?_⟩
    · show 10 * oc_nm f b q + f (b + q) - 48 = _
      rw [e1, e3, show (10 : Int32) = nI 10 from rfl, pk_mul, nI_add, show (48 : Int32) = nI 48 from rfl, pk_sub (by omega), show 10 * n + (48 + t) - 48 = 10 * n + t by omega]
    · show (oc_bi f (nI X) b q && decide (f (b + q) - 48 = oc_dg (nI X) (nI (oc_p10 q)))) = true ↔ _
      rw [Bool.and_eq_true, decide_eq_true_eq, e2, hsub, od_dgN hX (by omega), nI_eq (by omega) (by have := Nat.mod_lt (X / 10 ^ (5 - q)) (show 0 < 10 by omega); omega)]
      have hdd : X / 10 ^ (6 - q) = X / 10 ^ (5 - q) / 10 := by
        rw [Nat.div_div_eq_div_mul, ← Nat.pow_succ, show (5 - q).succ = 6 - q by omega]
      rw [hdd, show 6 - (q + 1) = 5 - q by omega]
      omega
theorem od_nnx_bg {f T : Nat → Int32} {X N b q : Nat} {vv : Nat → Int32} {qq : Nat → Nat} {r : Nat} (hX : X < 1000000) (hf : ∀ z, z < N → f z = T z) (hq1 : 1 ≤ q) (hq6 : q ≤ 6) (hds : od_ds T N b q) (hv : vv r = oc_nm T b q) (hqq : qq r = q) : od_nnx (nI X) vv qq r = oc_bg f (nI X) b q := by
  have hd : ∀ m, m < q → oc_dig (f (b + m)) = true := fun m hm => by
    have h1 := hds m hm
    have h2 := od_lkn h1
    rw [hf _ h2]
    rw [show od_lk T N (b + m) = T (b + m) from if_pos h2] at h1
    exact h1
  obtain ⟨n, hn, e1, e2⟩ := od_bi (f := f) (b := b) hX q hq6 hd
  have hp : (10 : Nat) ^ q ≤ 10 ^ 6 := Nat.pow_le_pow_right (by omega) (by omega)
  have hp6 : (10 : Nat) ^ 6 = 1000000 := by decide
  have hl : X / 10 ^ (6 - q) ≤ X := Nat.div_le_self _ _
  unfold od_nnx oc_bg
  rw [hqq, hv, od_dvN hX, ← od_nm_c (f := f) (T := T) q (fun m hm => hf _ (od_lkn (hds m hm))), e1]
  by_cases c : n = X / 10 ^ (6 - q)
  · rw [if_pos (by rw [c]), if_pos (e2.mpr c)]
  · rw [if_neg (fun z => c ((nI_eq (by omega) (by omega)).mp z).symm), if_neg (fun z => c (e2.mp z))]
theorem od_ro_c {n1 n2 : Nat → Nat} : ∀ N, (∀ r, r < N → n1 r = n2 r) → oc_ro n1 N = oc_ro n2 N := by
  intro N
  induction N with
  | zero => intro _; rfl
  | succ N ih =>
    intro h
    show (if (oc_ro n1 N).2 ≤ n1 N then (some N, n1 N) else oc_ro n1 N) = (if (oc_ro n2 N).2 ≤ n2 N then (some N, n2 N) else oc_ro n2 N)
    rw [ih (fun r hr => h r (by omega)), h N (by omega)]
/-! ===== sums ===== -/
theorem od_mfN {I : Nat → Int32} {F : Nat → Nat → Int32} {L : Nat → Int64} : ∀ N, (∀ j, j < N → ∃ c : Nat, c ≤ 1000000000 ∧ L j = lN c) → ∃ f : Nat, f ≤ N * 1000000000 ∧ oc_mf I F L N = lN f := by
  intro N
  induction N with
  | zero => intro _; exact ⟨0, by omega, rfl⟩
  | succ N ih =>
    intro h
    obtain ⟨f, h1, h2⟩ := ih (fun j hj => h j (by omega))
    obtain ⟨c, h3, h4⟩ := h N (by omega)
    rw [Nat.add_mul, Nat.one_mul]
    show ∃ f : Nat, f ≤ N * 1000000000 + 1000000000 ∧ oc_mf I F L N + (if oc_mw I F (F 9 N) = true then 0 else L N) = lN f
    split
    · exact ⟨f, Nat.le_trans h1 (Nat.le_add_right _ _), by rw [h2, Int64.add_zero]⟩
    · exact ⟨f + c, Nat.add_le_add h1 h3, by rw [h2, h4]; exact lN_add f c⟩
theorem od_mt0 {I : Nat → Int32} {F : Nat → Nat → Int32} {L : Nat → Int64} {x z : Int32} : ∀ N, oc_me I F x z N = false → oc_mt I F L x z N = 0 := by
  intro N
  induction N with
  | zero => intro _; rfl
  | succ N ih =>
    intro h
    have h : (oc_me I F x z N || oc_ms I F x z N) = false := h
    rw [Bool.or_eq_false_iff] at h
    show oc_mt I F L x z N + (if oc_ms I F x z N = true then L N else 0) = 0
    rw [ih h.1, h.2]
    rfl
theorem od_mxE {I : Nat → Int32} {F : Nat → Nat → Int32} {L : Nat → Int64} {N : Nat} {x z : Int32} {y : Int64} {jy ju : Nat} (hy : y = lN jy) (hjy : jy ≤ 1000000000) (hu : I 16 = nI ju) (hju : ju ≤ 1000) : oc_mx I F L N x y z = !decide (y * (I 16).toInt64 < oc_mt I F L x z N * (I 17).toInt64) := by
  unfold oc_mx
  cases h : oc_me I F x z N with
  | true => rfl
  | false =>
    rw [od_mt0 N h, hy, hu, nI_l (by omega), lN_mul, Int64.zero_mul]
    have h1 : jy * ju ≤ 1000000000 * 1000 := Nat.mul_le_mul hjy hju
    have : ¬ lN (jy * ju) < 0 := by
      rw [show (0 : Int64) = lN 0 from rfl, pk_lLT (by omega) (by omega)]
      omega
    simp [this]
/-- what the model says of a factor is what the tree's leaf says -/
theorem od_hvM {I : Nat → Int32} {F : Nat → Nat → Int32} {L : Nat → Int64} {N Nn : Nat} {T : Nat → Int32} {x : Int32} {y : Int64} {jy ju : Nat} (hy : y = lN jy) (hjy : jy ≤ 1000000000) (hu : I 16 = nI ju) (hju : ju ≤ 1000) (hN : I 7 = nI N) (hf : ∀ q, q < Nn → F 3 q = T q) : od_hv (F 3) (od_nmd T Nn) I F L N x y (fun q => oc_mh I F L N q (od_zed T Nn q) x y) := by
  intro q
  have hz := od_nmd_f hf q
  refine ⟨fun h => ?_, fun h => ?_, fun h => ?_, fun h => ?_, fun h => ?_, fun h => ?_⟩
  · simp only [oc_mh, h]
    rw [hN]
    simp
  · simp only [oc_mh, h]
    rw [← od_mxE hy hjy hu hju]
    simp
  · simp only [oc_mh, h]
    rw [← od_mxE hy hjy hu hju]
    simp
  · simp only [oc_mh, h]
    rw [← od_mxE hy hjy hu hju]
    simp
  · simp only [oc_mh, h, hz]
    rw [Int64.mul_comm (od_nmd T Nn q).toInt64 y, Int64.mul_comm 100 (oc_mf I F L N)]
    simp
  · simp only [oc_mh, h, hz]
    simp
