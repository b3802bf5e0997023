/-! ===== plain ties: reading ===== -/
section OTI
variable {T T6 : Nat → Int32} {N : Nat}
theorem od_u1 (q : Nat) (hq : q < 1000) (h : 0 ≤ (rd_it T T6 q).2.2.2.2.2.1) : 0 ≤ (rd_it T T6 (q + 1)).2.2.2.2.2.1 := by
  show 0 ≤ (rd_st T q (rd_it T T6 q)).2.2.2.2.2.1
  generalize hz : rd_it T T6 q = z at h ⊢
  obtain ⟨y, w, g, v, k, u, X⟩ := z
  show 0 ≤ (if 0 ≤ rd_nx y (T q) w g v k then u else nI q)
  split
  · exact h
  · exact nI_pos' (by omega)
theorem od_un (q n : Nat) (hq : q + n < 1000) (h : 0 ≤ (rd_it T T6 q).2.2.2.2.2.1) : 0 ≤ (rd_it T T6 (q + n)).2.2.2.2.2.1 := by
  induction n with
  | zero => exact h
  | succ n ih => exact od_u1 (q + n) (by omega) (ih (by omega))
theorem od_uA {q : Nat} {y w g v : Int32} {k : Nat} (h : od_AU T T6 q y w g v k) : ¬ 0 ≤ (rd_it T T6 q).2.2.2.2.2.1 := by
  obtain ⟨X, hX⟩ := h
  rw [hX]
  show ¬ (0 : Int32) ≤ -1
  decide
theorem od_endN {q : Nat} {y w g v : Int32} {k : Nat} (hN : N ≤ 300) (h : od_AU T T6 N y w g v k) (he : rd_end T T6 N q) : q = N := by
  obtain ⟨h1, h2, h3⟩ := he
  rcases h2 with h2 | h2
  · exact h2
  · have := od_un (T := T) (T6 := T6) q (N - q) (by omega) h2
    rw [show q + (N - q) = N by omega] at this
    exact absurd this (od_uA h)
/-- the text stands: what the model's reading ends with -/
theorem od_rdS {q : Nat} {w g v : Int32} {k : Nat} (hN : N ≤ 300) (h : od_AU T T6 N 0 w g v k) (hk : 1 ≤ k) (he : rd_end T T6 N q) : q = N ∧ ¬ 0 ≤ rd_wr N (rd_it T T6 q) ∧ (rd_it T T6 q).2.2.2.2.1 = k := by
  have hq := od_endN hN h he
  subst hq
  refine ⟨rfl, ?_, ?_⟩
  · obtain ⟨X, hX⟩ := h
    rw [hX]
    unfold rd_wr
    have hk0 : ¬ k = 0 := by omega
    simp [hk0]
  · obtain ⟨X, hX⟩ := h
    rw [hX]
/-- something is wrong at p -/
theorem od_rdE {q p : Nat} (hN : N ≤ 300) (h : od_ER T T6 N p) (he : rd_end T T6 N q) : rd_wr N (rd_it T T6 q) = nI p ∧ 0 ≤ rd_wr N (rd_it T T6 q) := by
  rcases h with ⟨hp, y, w, g, v, k, hA, hn⟩ | ⟨rfl, y, w, g, v, k, hA, hn⟩
  · have hu : (rd_it T T6 (p + 1)).2.2.2.2.2.1 = nI p := by
      show (rd_st T p (rd_it T T6 p)).2.2.2.2.2.1 = _
      obtain ⟨X, hX⟩ := hA
      rw [hX]
      show (if 0 ≤ rd_nx y (T p) w g v k then (-1 : Int32) else nI p) = nI p
      rw [if_neg hn]
    have hu0 : 0 ≤ (rd_it T T6 (p + 1)).2.2.2.2.2.1 := by rw [hu]; exact nI_pos' (by omega)
    obtain ⟨h1, h2, h3⟩ := he
    have hq : q = p + 1 := by
      rcases Nat.lt_trichotomy q (p + 1) with c | c | c
      · rcases h2 with h2 | h2
        · omega
        · have := od_un (T := T) (T6 := T6) q (p - q) (by omega) h2
          rw [show q + (p - q) = p by omega] at this
          exact absurd this (od_uA hA)
      · exact c
      · exact absurd hu0 (h3 _ c)
    subst hq
    have e : rd_wr N (rd_it T T6 (p + 1)) = nI p := by
      unfold rd_wr
      rw [if_neg (fun z => z.1 hu0)]
      exact hu
    exact ⟨e, by rw [e]; exact nI_pos' (by omega)⟩
  · have hq := od_endN hN hA he
    subst hq
    have e : rd_wr q (rd_it T T6 q) = nI q := by
      unfold rd_wr
      rw [if_pos]
      refine ⟨od_uA hA, ?_⟩
      obtain ⟨X, hX⟩ := hA
      rw [hX]
      exact hn
    exact ⟨e, by rw [e]; exact nI_pos' (by omega)⟩
end OTI
/-! ===== digits behind a place ===== -/
def od_dc (T : Nat → Int32) (N : Nat) : Nat → Nat → Nat
  | 0, _ => 0
  | n + 1, a => if oc_dig (od_lk T N a) = true then od_dc T N n (a + 1) + 1 else 0
theorem od_dc1 {T : Nat → Int32} {N : Nat} : ∀ n a m, m < od_dc T N n a → oc_dig (od_lk T N (a + m)) = true := by
  intro n
  induction n with
  | zero => intro a m h; exact absurd h (Nat.not_lt_zero m)
  | succ n ih =>
    intro a m h
    unfold od_dc at h
    by_cases c : oc_dig (od_lk T N a) = true
    · rw [if_pos c] at h
      cases m with
      | zero => exact c
      | succ m =>
        rw [show a + (m + 1) = a + 1 + m by omega]
        exact ih (a + 1) m (by omega)
    · rw [if_neg c] at h
      exact absurd h (Nat.not_lt_zero m)
theorem od_lkn {T : Nat → Int32} {N a : Nat} (h : oc_dig (od_lk T N a) = true) : a < N := by
  apply Classical.byContradiction
  intro c
  rw [show od_lk T N a = -1 from if_neg c] at h
  exact absurd h (by decide)
theorem od_dc2 {T : Nat → Int32} {N : Nat} : ∀ n a, N ≤ a + n → oc_dig (od_lk T N (a + od_dc T N n a)) = false := by
  intro n
  induction n with
  | zero =>
    intro a h
    rw [Bool.eq_false_iff]
    intro z
    have := od_lkn z
    unfold od_dc at this
    omega
  | succ n ih =>
    intro a h
    unfold od_dc
    by_cases c : oc_dig (od_lk T N a) = true
    · rw [if_pos c, show a + (od_dc T N n (a + 1) + 1) = a + 1 + od_dc T N n (a + 1) by omega]
      exact ih (a + 1) (by omega)
    · rw [if_neg c]
      exact Bool.eq_false_iff.mpr c
/-- how many digits stand from a on -/
def od_dn (T : Nat → Int32) (N a : Nat) : Nat := od_dc T N N a
theorem od_dn1 {T : Nat → Int32} {N a m : Nat} (h : m < od_dn T N a) : oc_dig (od_lk T N (a + m)) = true := od_dc1 _ _ _ h
theorem od_dn2 (T : Nat → Int32) (N a : Nat) : oc_dig (od_lk T N (a + od_dn T N a)) = false := od_dc2 _ _ (by omega)
theorem od_dnE {T : Nat → Int32} {N a j : Nat} (h : od_ds T N a j) (h2 : oc_dig (od_lk T N (a + j)) = false) : od_dn T N a = j := by
  rcases Nat.lt_trichotomy (od_dn T N a) j with c | c | c
  · have := h _ c
    rw [od_dn2] at this
    cases this
  · exact c
  · have := od_dn1 c
    rw [h2] at this
    cases this
/-- the number behind a place; where it ends -/
def od_nmd (T : Nat → Int32) (N q : Nat) : Int32 := oc_nm T (q + 1) (od_dn T N (q + 1))
def od_zed (T : Nat → Int32) (N q : Nat) : Nat := q + 1 + od_dn T N (q + 1)
theorem od_nmd_h {T : Nat → Int32} {N : Nat} : ∀ q j, 1 ≤ j → od_ds T N (q + 1) j → oc_dig (od_lk T N (q + 1 + j)) = false → od_nmd T N q = oc_nm T (q + 1) j := by
  intro q j _ h1 h2
  unfold od_nmd
  rw [od_dnE h1 h2]
theorem od_nm_c {f T : Nat → Int32} {a : Nat} : ∀ j, (∀ m, m < j → f (a + m) = T (a + m)) → oc_nm f a j = oc_nm T a j := by
  intro j
  induction j with
  | zero => intro _; rfl
  | succ j ih =>
    intro h
    show 10 * oc_nm f a j + f (a + j) - 48 = 10 * oc_nm T a j + T (a + j) - 48
    rw [ih (fun m hm => h m (by omega)), h j (by omega)]
theorem od_nmd_f {f T : Nat → Int32} {N : Nat} (h : ∀ q, q < N → f q = T q) (q : Nat) : oc_nm f (q + 1) (od_zed T N q - (q + 1)) = od_nmd T N q := by
  unfold od_nmd od_zed
  rw [show q + 1 + od_dn T N (q + 1) - (q + 1) = od_dn T N (q + 1) by omega]
  exact od_nm_c _ (fun m hm => h _ (od_lkn (od_dn1 hm)))
theorem od_zed_Z {f T : Nat → Int32} {N E : Nat} (h : ∀ q, q < N → f q = T q) (hE : E < N) (h59 : T E = 59) : oc_Ze f E (od_zed T N) := by
  intro q hq
  have hle : od_zed T N q ≤ E := by
    apply Classical.byContradiction
    intro c
    have : E - (q + 1) < od_dn T N (q + 1) := by unfold od_zed at c; omega
    have := od_dn1 this
    rw [show q + 1 + (E - (q + 1)) = E by omega, show od_lk T N E = T E from if_pos hE, h59] at this
    exact absurd this (by decide)
  refine ⟨by unfold od_zed; omega, hle, fun i h1 h2 => ?_, ?_⟩
  · have h3 : i - (q + 1) < od_dn T N (q + 1) := by unfold od_zed at h2; omega
    have h4 := od_dn1 h3
    rw [show q + 1 + (i - (q + 1)) = i by omega] at h4
    have h5 := od_lkn h4
    rw [show od_lk T N i = T i from if_pos h5] at h4
    rw [h i h5]
    exact h4
  · have h4 := od_dn2 T N (q + 1)
    have h5 : q + 1 + od_dn T N (q + 1) < N := by unfold od_zed at hle; omega
    rw [show od_lk T N (q + 1 + od_dn T N (q + 1)) = T (q + 1 + od_dn T N (q + 1)) from if_pos h5] at h4
    unfold od_zed
    rw [h _ h5]
    exact h4
