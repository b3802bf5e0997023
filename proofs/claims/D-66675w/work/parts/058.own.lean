/-! ===== the lands that count as own: rounds over pairs, either way ===== -/
theorem od_b1 (i : Nat) (hi : i < 32) : bt 1 i = decide (i = 0) := by
  revert i; decide +kernel
theorem od_and1 (x : Int32) : x &&& 1 = 1 ↔ bt x 0 = true := by
  constructor
  · intro h
    have h2 : bt (x &&& 1) 0 = bt 1 0 := by rw [h]
    rw [b_and, od_b1 0 (by decide)] at h2
    simpa using h2
  · intro h
    apply b_ext
    intro i hi
    rw [b_and, od_b1 i hi]
    by_cases z : i = 0
    · subst z; simp [h]
    · simp [z]
theorem od_bit (w : Int32) {a : Nat} (ha : a < 32) : (w >>> (nI a &&& 31)) &&& 1 = 1 ↔ bt w a = true := by
  rw [od_and1, b_sshr a ha w (by decide), if_pos (by omega)]
  rfl
theorem od_sh1 {k i : Nat} (hk : k < 32) (hi : i < 32) : bt ((1 : Int32) <<< (nI k &&& 31)) i = decide (i = k) := by
  rw [b_shl k hk 1 hi, od_b1 (i - k) (by omega)]
  by_cases z : k ≤ i
  · simp only [z, decide_true, Bool.true_and]
    congr 1
    apply propext
    omega
  · simp only [z, decide_false, Bool.false_and]
    symm
    simp
    omega
def od_t1 (X : Nat → Int32) (r : Nat) (w : Int32) (k : Nat) : Bool := decide ((w >>> (nI k &&& 31)) &&& 1 = 1) && !decide (X (10 * r + k) = 0)
/-- does the land r touch the set w, as far as k -/
def od_tb (X : Nat → Int32) (r : Nat) (w : Int32) : Nat → Bool
  | 0 => false
  | k + 1 => od_tb X r w k || od_t1 X r w k
/-- the set and what touches it, as far as k -/
def od_m1 (X : Nat → Int32) (w : Int32) : Nat → Int32
  | 0 => w
  | k + 1 => od_m1 X w k ||| (if od_tb X k w 10 = true then 1 <<< (nI k &&& 31) else 0)
theorem od_tbx (X : Nat → Int32) (r : Nat) (w : Int32) : ∀ n, n ≤ 10 → (od_tb X r w n = true ↔ ∃ k, k < n ∧ bt w k = true ∧ ¬ X (10 * r + k) = 0) := by
  intro n
  induction n with
  | zero => intro _; simp [od_tb]
  | succ n ih =>
    intro hn
    unfold od_tb
    rw [Bool.or_eq_true, ih (by omega)]
    constructor
    · rintro (⟨k, h1, h2⟩ | h)
      · exact ⟨k, by omega, h2⟩
      · unfold od_t1 at h
        simp only [Bool.and_eq_true, decide_eq_true_eq, Bool.not_eq_true', decide_eq_false_iff_not] at h
        exact ⟨n, by omega, (od_bit w (by omega)).mp h.1, h.2⟩
    · rintro ⟨k, h1, h2, h3⟩
      by_cases z : k = n
      · subst z
        right
        unfold od_t1
        simp only [Bool.and_eq_true, decide_eq_true_eq, Bool.not_eq_true', decide_eq_false_iff_not]
        exact ⟨(od_bit w (by omega)).mpr h2, h3⟩
      · left; exact ⟨k, by omega, h2, h3⟩
theorem od_m1x (X : Nat → Int32) (w : Int32) {i : Nat} (hi : i < 32) : ∀ n, n ≤ 10 → (bt (od_m1 X w n) i = true ↔ bt w i = true ∨ (i < n ∧ od_tb X i w 10 = true)) := by
  intro n
  induction n with
  | zero => intro _; simp [od_m1]
  | succ n ih =>
    intro hn
    unfold od_m1
    rw [b_or, Bool.or_eq_true, ih (by omega)]
    by_cases z : od_tb X n w 10 = true
    · rw [if_pos z, od_sh1 (by omega) hi, decide_eq_true_eq]
      constructor
      · rintro ((h | h) | h)
        · exact Or.inl h
        · exact Or.inr ⟨by omega, h.2⟩
        · subst h; exact Or.inr ⟨by omega, z⟩
      · rintro (h | h)
        · exact Or.inl (Or.inl h)
        · by_cases e : i = n
          · exact Or.inr e
          · exact Or.inl (Or.inr ⟨by omega, h.2⟩)
    · rw [if_neg z, b_0]
      constructor
      · rintro ((h | h) | h)
        · exact Or.inl h
        · exact Or.inr ⟨by omega, h.2⟩
        · cases h
      · rintro (h | h)
        · exact Or.inl (Or.inl h)
        · by_cases e : i = n
          · subst e; exact absurd h.2 z
          · exact Or.inl (Or.inr ⟨by omega, h.2⟩)
theorem od_mix (X : Nat → Int32) (w x : Int32) {i : Nat} (hi : i < 32) : ∀ n, n ≤ 100 → (bt (oc_mi X w n x) i = true ↔ bt x i = true ∨ ∃ k, k < n ∧ k % 10 = i ∧ ¬ X k = 0 ∧ bt w (k / 10) = true) := by
  intro n
  induction n with
  | zero => intro _; simp [oc_mi]
  | succ n ih =>
    intro hn
    unfold oc_mi
    rw [b_or, Bool.or_eq_true, ih (by omega)]
    have hq : n / 10 < 32 := by omega
    have hm : n % 10 < 32 := by omega
    by_cases z : ¬ X n = 0 ∧ (w >>> (nI (n / 10) &&& 31)) &&& 1 = 1
    · rw [if_pos z, od_sh1 hm hi, decide_eq_true_eq]
      rw [od_bit w hq] at z
      constructor
      · rintro ((h | ⟨k, h1, h2⟩) | h)
        · exact Or.inl h
        · exact Or.inr ⟨k, by omega, h2⟩
        · exact Or.inr ⟨n, by omega, h.symm, z⟩
      · rintro (h | ⟨k, h1, h2, h3⟩)
        · exact Or.inl (Or.inl h)
        · by_cases e : k = n
          · subst e; exact Or.inr h2.symm
          · exact Or.inl (Or.inr ⟨k, by omega, h2, h3⟩)
    · rw [if_neg z, b_0]
      rw [od_bit w hq] at z
      constructor
      · rintro ((h | ⟨k, h1, h2⟩) | h)
        · exact Or.inl h
        · exact Or.inr ⟨k, by omega, h2⟩
        · cases h
      · rintro (h | ⟨k, h1, h2, h3⟩)
        · exact Or.inl (Or.inl h)
        · by_cases e : k = n
          · subst e; exact absurd h3 z
          · exact Or.inl (Or.inr ⟨k, by omega, h2, h3⟩)
/-- pairs go either way -/
def od_sym (X : Nat → Int32) : Prop := ∀ i j, i < 10 → j < 10 → (X (10 * i + j) = 0 ↔ X (10 * j + i) = 0)
theorem od_round {X : Nat → Int32} (hs : od_sym X) (w : Int32) : od_m1 X w 10 = oc_mi X w 100 w := by
  apply b_ext
  intro i hi
  apply Bool.eq_iff_iff.mpr
  rw [od_m1x X w hi 10 (by omega), od_mix X w w hi 100 (by omega)]
  constructor
  · rintro (h | ⟨h1, h2⟩)
    · exact Or.inl h
    · obtain ⟨k, a1, a2, a3⟩ := (od_tbx X i w 10 (by omega)).mp h2
      refine Or.inr ⟨10 * k + i, by omega, by omega, ?_, ?_⟩
      · rw [hs k i a1 h1]; exact a3
      · rw [show (10 * k + i) / 10 = k by omega]; exact a2
  · rintro (h | ⟨k, h1, h2, h3, h4⟩)
    · exact Or.inl h
    · refine Or.inr ⟨by omega, (od_tbx X i w 10 (by omega)).mpr ⟨k / 10, by omega, h4, ?_⟩⟩
      rw [hs i (k / 10) (by omega) (by omega), show 10 * (k / 10) + i = k by omega]
      exact h3
theorem od_mo_up {X : Nat → Int32} (r : Nat) {i : Nat} (hi : i < 32) (h : bt (oc_mo X r) i = true) : bt (oc_mo X (r + 1)) i = true := (od_mix X _ _ hi 100 (by omega)).mpr (Or.inl h)
theorem od_mo_hi {X : Nat → Int32} : ∀ (r : Nat) {i : Nat}, i < 32 → 10 ≤ i → bt (oc_mo X r) i = false := by
  intro r
  induction r with
  | zero => intro i h1 h2; show bt 1 i = false; rw [od_b1 i h1]; simp; omega
  | succ r ih =>
    intro i h1 h2
    cases hb : bt (oc_mo X (r + 1)) i with
    | false => rfl
    | true =>
      rcases (od_mix X _ _ h1 100 (by omega)).mp hb with h | ⟨k, a1, a2, -⟩
      · rw [ih h1 h2] at h; cases h
      · omega
theorem od_ct_lt {f g : Nat → Bool} : ∀ {n : Nat}, (∀ k, k < n → f k = true → g k = true) → (∃ k, k < n ∧ f k = false ∧ g k = true) → fb_ct f n < fb_ct g n := by
  intro n
  induction n with
  | zero => rintro - ⟨k, h, -⟩; omega
  | succ n ih =>
    intro h1 ⟨k, h2, h3, h4⟩
    rw [fb_ct_succ, fb_ct_succ]
    have hle : fb_ct f n ≤ fb_ct g n := fb_ct_sub (fun k hk => h1 k (by omega))
    by_cases e : k = n
    · subst e; rw [h3, h4]; simp; omega
    · have := ih (fun k hk => h1 k (by omega)) ⟨k, by omega, h3, h4⟩
      cases hf : f n with
      | false => simp; omega
      | true => rw [h1 n (by omega) hf]; simp; omega
theorem od_mo_ct {X : Nat → Int32} : ∀ (j : Nat), (∀ i, i < j → ¬ oc_mo X (i + 1) = oc_mo X i) → j + 1 ≤ fb_ct (bt (oc_mo X j)) 10 := by
  intro j
  induction j with
  | zero => intro _; show 1 ≤ fb_ct (bt 1) 10; decide +kernel
  | succ j ih =>
    intro h
    have h1 := ih (fun i hi => h i (by omega))
    have h2 : fb_ct (bt (oc_mo X j)) 10 < fb_ct (bt (oc_mo X (j + 1))) 10 := by
      refine od_ct_lt (fun k hk hb => od_mo_up j (by omega) hb) ?_
      apply Classical.byContradiction
      intro hn
      apply h j (by omega)
      apply b_ext
      intro i hi
      by_cases hi10 : i < 10
      · cases hb : bt (oc_mo X j) i with
        | true => exact od_mo_up j hi hb
        | false =>
          cases hc : bt (oc_mo X (j + 1)) i with
          | false => rfl
          | true => exact absurd ⟨i, hi10, hb, hc⟩ hn
      · rw [od_mo_hi j hi (by omega), od_mo_hi (j + 1) hi (by omega)]
    omega
theorem od_mo_fix {X : Nat → Int32} {j : Nat} (h : oc_mo X (j + 1) = oc_mo X j) : ∀ k, oc_mo X (j + k) = oc_mo X j := by
  intro k
  induction k with
  | zero => rfl
  | succ k ih =>
    rw [show j + (k + 1) = (j + k) + 1 by omega]
    show oc_mi X (oc_mo X (j + k)) 100 (oc_mo X (j + k)) = _
    rw [ih]
    exact h
/-- the rounds end -/
theorem od_grow {X : Nat → Int32} {j : Nat} (h : ¬ oc_mo X (j + 1) = oc_mo X j) : j + 1 ≤ 9 := by
  have h1 := od_mo_ct (X := X) (j + 1) (fun i hi e => h (by
    have e1 := od_mo_fix e (j - i)
    have e2 := od_mo_fix e (j + 1 - i)
    rw [show i + (j - i) = j by omega] at e1
    rw [show i + (j + 1 - i) = j + 1 by omega] at e2
    rw [e1, e2]))
  have h2 := fb_ct_le (bt (oc_mo X (j + 1))) 10
  omega
theorem od_fixed {X : Nat → Int32} {j : Nat} (h : oc_mo X (j + 1) = oc_mo X j) (hj : j ≤ 10) : oc_mo X 10 = oc_mo X j := by
  have := od_mo_fix h (10 - j)
  rw [show j + (10 - j) = 10 by omega] at this
  exact this
theorem od_or (a b : Bool) : oc_b a ||| oc_b b = oc_b (a || b) := by cases a <;> cases b <;> rfl
