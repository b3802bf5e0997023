/-! ===== the model's reading, sign by sign, as the reader goes through the text ===== -/
section OAU
variable (T T6 : Nat → Int32) (N : Nat)
/-- behind q signs, nothing wrong: state y, brackets w, digits g, number v, rows k -/
def od_AU (q : Nat) (y w g v : Int32) (k : Nat) : Prop := ∃ X, rd_it T T6 q = (y, w, g, v, k, -1, X)
/-- something is wrong at p -/
def od_ER (p : Nat) : Prop := (p < N ∧ ∃ y w g v k, od_AU T T6 p y w g v k ∧ ¬ 0 ≤ rd_nx y (T p) w g v k) ∨ (p = N ∧ ∃ y w g v k, od_AU T T6 N y w g v k ∧ (¬ y = 0 ∨ k = 0))
/-- ahead of a factor, in e brackets -/
def od_AH (i e k : Nat) : Prop := ∃ g v, od_AU T T6 i 2 (nI e) g v k
/-- behind a factor -/
def od_BH (j e k : Nat) : Prop := ∃ y g v, od_AU T T6 j y (nI e) g v k ∧ ¬ y = 0 ∧ (j < N → rd_nx y (T j) (nI e) g v k = oc_beh (T j) (nI e))
end OAU
section OAU2
variable {T T6 : Nat → Int32} {N : Nat}
theorem od_AU_s {q : Nat} {y w g v : Int32} {k : Nat} (h : od_AU T T6 q y w g v k) (hn : 0 ≤ rd_nx y (T q) w g v k) : od_AU T T6 (q + 1) (rd_nx y (T q) w g v k) (w + (if T q = 40 then 1 else if T q = 41 then -1 else 0)) (rd_g y (T q) g) (rd_v y (T q) g v) (k + (if rd_nx y (T q) w g v k = 0 then 1 else 0)) := by
  obtain ⟨X, hX⟩ := h
  refine ⟨if y = 0 then upd X k (nI q) else X, ?_⟩
  show rd_st T q (rd_it T T6 q) = _
  rw [hX]
  simp only [rd_st, if_pos hn]
theorem od_AU_0 : od_AU T T6 0 0 0 0 0 0 := ⟨T6, rfl⟩
theorem od_erN {q : Nat} {y w g v : Int32} {k : Nat} (h : od_AU T T6 q y w g v k) (hq : q ≤ N) (hy : ¬ y = 0) (hn : q < N → ¬ 0 ≤ rd_nx y (T q) w g v k) : od_ER T T6 N q := by
  rcases Nat.lt_or_ge q N with z | z
  · exact Or.inl ⟨z, y, w, g, v, k, h, hn z⟩
  · have e : q = N := by omega
    subst e
    exact Or.inr ⟨rfl, y, w, g, v, k, h, Or.inl hy⟩
theorem od_lkt {i : Nat} (h : i < N) : od_lk T N i = T i := if_pos h
theorem od_nm1 : ¬ (0 : Int32) ≤ -1 := by decide
theorem od_add0 (w : Int32) : w + 0 = w := Int32.add_zero w
/-- a factor of one sign -/
theorem od_a1f {i e k : Nat} (h : od_AH T T6 i e k) (hc : T i = 87 ∨ T i = 67 ∨ T i = 72 ∨ T i = 83) : od_BH T T6 N (i + 1) e k := by
  obtain ⟨g, v, h⟩ := h
  have hn : rd_nx 2 (T i) (nI e) g v k = 3 := by
    show oc_ahd (T i) (nI e) = 3
    unfold oc_ahd
    rw [if_pos hc]
  have h2 := od_AU_s h (by rw [hn]; decide)
  rw [hn] at h2
  have e1 : (if T i = 40 then (1 : Int32) else if T i = 41 then -1 else 0) = 0 := by rcases hc with c | c | c | c <;> rw [c] <;> rfl
  rw [e1, od_add0] at h2
  exact ⟨3, _, _, h2, by decide, fun _ => rfl⟩
/-- no factor -/
theorem od_a0 {i e k : Nat} (h : od_AH T T6 i e k) (hi : i ≤ N) (he : e < 9) (hc : ∀ x, x = 87 ∨ x = 67 ∨ x = 72 ∨ x = 83 ∨ x = 86 ∨ x = 80 ∨ (x = 40 ∧ e < 8) → ¬ od_lk T N i = x) : od_ER T T6 N i := by
  obtain ⟨g, v, h⟩ := h
  refine od_erN h hi (by decide) (fun hlt => ?_)
  rw [od_lkt hlt] at hc
  have hn : rd_nx 2 (T i) (nI e) g v k = -1 := by
    show oc_ahd (T i) (nI e) = -1
    unfold oc_ahd
    rw [if_neg (by rintro (c | c | c | c) <;> exact hc _ (by simp) c), if_neg (fun c => hc _ (by simp) c), if_neg (fun c => hc _ (by simp) c), if_neg]
    rintro ⟨c1, c2⟩
    have c3 := (oc_lt (x := nI e) (y := 8) (a := e) (b := 8) rfl rfl (by omega) (by decide)).mp c2
    exact hc 40 (by simp [c3]) c1
  rw [hn]
  exact od_nm1
theorem od_dg41 {x : Int32} (h : oc_dig x = true) : (if x = 40 then (1 : Int32) else if x = 41 then -1 else 0) = 0 := by
  have h1 : ¬ x = 40 := fun e => by rw [e] at h; exact absurd h (by decide)
  have h2 : ¬ x = 41 := fun e => by rw [e] at h; exact absurd h (by decide)
  rw [if_neg h1, if_neg h2]
theorem od_nle {a b : Nat} (h : a < b) (hb : b < 2147483648) : ¬ nI b ≤ nI a := fun z => by
  have := (oc_le (x := nI b) (y := nI a) rfl rfl hb (by omega)).mp z
  omega
/-- in the digits of a number: y is 4 (a share: M = 3) or 5 (a process: M = 2) -/
theorem od_num {i e k M : Nat} {y : Int32} (hyM : (y = 4 ∧ M = 3 ∧ T i = 86) ∨ (y = 5 ∧ M = 2 ∧ T i = 80)) (h : od_AH T T6 i e k) : ∀ j, j ≤ M → od_ds T N (i + 1) j → od_AU T T6 (i + 1 + j) y (nI e) (nI j) (oc_nm T (i + 1) j) k := by
  obtain ⟨g, v, h⟩ := h
  intro j
  induction j with
  | zero =>
    intro _ _
    have hn : rd_nx 2 (T i) (nI e) g v k = y := by
      show oc_ahd (T i) (nI e) = y
      unfold oc_ahd
      rcases hyM with ⟨a, -, c⟩ | ⟨a, -, c⟩ <;> rw [c, a] <;> rfl
    have h0 : (0 : Int32) ≤ y ∧ ¬ y = 0 := by rcases hyM with ⟨a, -⟩ | ⟨a, -⟩ <;> rw [a] <;> decide
    have h2 := od_AU_s h (by rw [hn]; exact h0.1)
    rw [hn] at h2
    have e1 : (if T i = 40 then (1 : Int32) else if T i = 41 then -1 else 0) = 0 := by rcases hyM with ⟨-, -, c⟩ | ⟨-, -, c⟩ <;> rw [c] <;> rfl
    rw [e1, od_add0, if_neg h0.2] at h2
    exact h2
  | succ j ih =>
    intro hj hds
    have h1 := ih (by omega) (fun a ha => hds a (by omega))
    have hd := hds j (by omega)
    have hlt := od_lkd hd
    rw [od_lkt hlt] at hd
    have hy : ¬ y = 0 ∧ ¬ y = 1 ∧ ¬ y = 2 ∧ ¬ y = 3 ∧ (0 : Int32) ≤ y := by rcases hyM with ⟨a, -⟩ | ⟨a, -⟩ <;> rw [a] <;> decide
    have hg : ¬ (if y = 4 then (3 : Int32) else 2) ≤ nI j := by
      rcases hyM with ⟨a, b, -⟩ | ⟨a, b, -⟩
      · rw [a, if_pos rfl]; exact od_nle (b := 3) (by omega) (by decide)
      · rw [a, if_neg (by decide)]; exact od_nle (b := 2) (by omega) (by decide)
    have hn : rd_nx y (T (i + 1 + j)) (nI e) (nI j) (oc_nm T (i + 1) j) k = y := by
      unfold rd_nx
      rw [if_neg hy.1, if_neg hy.2.1, if_neg hy.2.2.1, if_neg hy.2.2.2.1, if_pos ⟨hd, hg⟩]
    have h2 := od_AU_s h1 (by rw [hn]; exact hy.2.2.2.2)
    rw [hn, od_dg41 hd, od_add0, if_neg hy.1] at h2
    have eg : rd_g y (T (i + 1 + j)) (nI j) = nI (j + 1) := by
      unfold rd_g
      rw [if_neg hy.1, if_neg hy.2.1, if_neg hy.2.2.1, if_neg hy.2.2.2.1, if_pos ⟨hd, hg⟩, nI_1]
    have ev : rd_v y (T (i + 1 + j)) (nI j) (oc_nm T (i + 1) j) = oc_nm T (i + 1) (j + 1) := by
      unfold rd_v
      rw [if_neg hy.1, if_neg hy.2.1, if_neg hy.2.2.1, if_neg hy.2.2.2.1, if_pos ⟨hd, hg⟩]
      rfl
    rw [eg, ev] at h2
    exact h2
theorem od_npos {j : Nat} (h : 1 ≤ j) (hj : j < 10) : ¬ nI j ≤ (0 : Int32) := od_nle (a := 0) (b := j) (by omega) (by omega)
/-- a number ends well -/
theorem od_numB {i e k M j : Nat} {y gr : Int32} (hyM : (y = 4 ∧ M = 3 ∧ T i = 86) ∨ (y = 5 ∧ M = 2 ∧ T i = 80)) (hgr : gr = if y = 4 then 100 else 15) (h : od_AH T T6 i e k) (hj1 : 1 ≤ j) (hj : j ≤ M) (hds : od_ds T N (i + 1) j) (hnd : oc_dig (od_lk T N (i + 1 + j)) = false) (hv : ¬ gr < oc_nm T (i + 1) j) : od_BH T T6 N (i + 1 + j) e k := by
  have h1 := od_num (N := N) hyM h j hj hds
  have hM : M < 4 := by rcases hyM with ⟨-, b, -⟩ | ⟨-, b, -⟩ <;> omega
  have hy : ¬ y = 0 ∧ ¬ y = 1 ∧ ¬ y = 2 ∧ ¬ y = 3 := by rcases hyM with ⟨a, -⟩ | ⟨a, -⟩ <;> rw [a] <;> decide
  refine ⟨y, _, _, h1, hy.1, fun hlt => ?_⟩
  rw [od_lkt hlt] at hnd
  unfold rd_nx
  rw [if_neg hy.1, if_neg hy.2.1, if_neg hy.2.2.1, if_neg hy.2.2.2, if_neg (by rintro ⟨a, -⟩; rw [hnd] at a; cases a), if_pos ⟨od_npos hj1 (by omega), by rw [← hgr]; exact hv⟩]
theorem od_behd {x w : Int32} (h : oc_dig x = true) : oc_beh x w = -1 := by
  unfold oc_beh
  rw [if_neg (by rintro (e | e) <;> rw [e] at h <;> exact absurd h (by decide)), if_neg (by rintro ⟨e, -⟩; rw [e] at h; exact absurd h (by decide)), if_neg (by rintro ⟨e, -⟩; rw [e] at h; exact absurd h (by decide))]
/-- a number ends badly -/
theorem od_numE {i e k M j : Nat} {y gr : Int32} (hyM : (y = 4 ∧ M = 3 ∧ T i = 86) ∨ (y = 5 ∧ M = 2 ∧ T i = 80)) (hgr : gr = if y = 4 then 100 else 15) (h : od_AH T T6 i e k) (hj : j ≤ M) (hds : od_ds T N (i + 1) j) (hN : i + 1 + j ≤ N)
    (hc : (j = 0 ∧ oc_dig (od_lk T N (i + 1)) = false) ∨ (j = M ∧ oc_dig (od_lk T N (i + 1 + j)) = true) ∨ (1 ≤ j ∧ oc_dig (od_lk T N (i + 1 + j)) = false ∧ gr < oc_nm T (i + 1) j)) : od_ER T T6 N (i + 1 + j) := by
  have h1 := od_num (N := N) hyM h j hj hds
  have hy : ¬ y = 0 ∧ ¬ y = 1 ∧ ¬ y = 2 ∧ ¬ y = 3 := by rcases hyM with ⟨a, -⟩ | ⟨a, -⟩ <;> rw [a] <;> decide
  refine od_erN h1 hN hy.1 (fun hlt => ?_)
  have key : rd_nx y (T (i + 1 + j)) (nI e) (nI j) (oc_nm T (i + 1) j) k = -1 := by
    unfold rd_nx
    rw [if_neg hy.1, if_neg hy.2.1, if_neg hy.2.2.1, if_neg hy.2.2.2]
    rcases hc with ⟨a, b⟩ | ⟨a, b⟩ | ⟨a, b, c⟩
    · subst a
      rw [show i + 1 + 0 = i + 1 from rfl] at hlt
      rw [od_lkt hlt] at b
      rw [if_neg (by rintro ⟨z, -⟩; rw [show i + 1 + 0 = i + 1 from rfl, b] at z; cases z), if_neg (by rintro ⟨z, -⟩; exact z (by decide))]
    · rw [od_lkt hlt] at b
      have hg : (if y = 4 then (3 : Int32) else 2) ≤ nI j := by
        rcases hyM with ⟨a1, b1, -⟩ | ⟨a1, b1, -⟩
        · rw [a1, if_pos rfl]; exact (oc_le (a := 3) (b := j) rfl rfl (by decide) (by omega)).mpr (by omega)
        · rw [a1, if_neg (by decide)]; exact (oc_le (a := 2) (b := j) rfl rfl (by decide) (by omega)).mpr (by omega)
      rw [if_neg (by rintro ⟨-, z⟩; exact z hg), od_behd b, ite_self]
    · rw [od_lkt hlt] at b
      rw [if_neg (by rintro ⟨z, -⟩; rw [b] at z; cases z), if_neg (by rintro ⟨-, z⟩; rw [← hgr] at z; exact z c)]
  rw [key]
  exact od_nm1
/-- a bracket opens -/
theorem od_open {i e k : Nat} (h : od_AH T T6 i e k) (hc : T i = 40) (he : e < 8) : od_AH T T6 (i + 1) (e + 1) k := by
  obtain ⟨g, v, h⟩ := h
  have hn : rd_nx 2 (T i) (nI e) g v k = 2 := by
    show oc_ahd (T i) (nI e) = 2
    unfold oc_ahd
    rw [hc, if_neg (by decide), if_neg (by decide), if_neg (by decide), if_pos ⟨rfl, (oc_lt (a := e) (b := 8) rfl rfl (by omega) (by decide)).mpr he⟩]
  have h2 := od_AU_s h (by rw [hn]; decide)
  rw [hn, hc, if_pos rfl, nI_1] at h2
  exact ⟨_, _, h2⟩
theorem od_n0 {e : Nat} (he : e < 100) : ¬ nI (e + 1) = 0 := fun z => by
  have := (oc_eq (x := nI (e + 1)) (y := 0) (a := e + 1) (b := 0) rfl rfl (by omega) (by decide)).mp z
  omega
/-- a bracket closes -/
theorem od_close {j e k : Nat} (h : od_BH T T6 N j (e + 1) k) (hj : j < N) (he : e < 9) (hc : T j = 41) : od_BH T T6 N (j + 1) e k := by
  obtain ⟨y, g, v, h1, h2, h3⟩ := h
  have hn : rd_nx y (T j) (nI (e + 1)) g v k = 3 := by
    rw [h3 hj, hc]
    unfold oc_beh
    rw [if_neg (by decide), if_pos ⟨rfl, od_lt (a := 0) (by omega) (by omega)⟩]
  have h4 := od_AU_s h1 (by rw [hn]; decide)
  rw [hn, hc, if_neg (by decide), if_pos rfl, if_neg (by decide), pk_m1] at h4
  exact ⟨3, _, _, h4, by decide, fun _ => rfl⟩
theorem od_closeE {j e k : Nat} (h : od_BH T T6 N j (e + 1) k) (hj : j ≤ N) (he : e < 9) (h1 : ¬ od_lk T N j = 38) (h2 : ¬ od_lk T N j = 124) (h3 : ¬ od_lk T N j = 41) : od_ER T T6 N j := by
  obtain ⟨y, g, v, a1, a2, a3⟩ := h
  refine od_erN a1 hj a2 (fun hlt => ?_)
  rw [od_lkt hlt] at h1 h2 h3
  rw [a3 hlt]
  unfold oc_beh
  rw [if_neg (by rintro (z | z); exact h1 z; exact h2 z), if_neg (by rintro ⟨z, -⟩; exact h3 z), if_neg (by rintro ⟨-, z⟩; exact od_n0 (by omega) z)]
  exact od_nm1
/-- a term or a rule goes on -/
theorem od_more {j e k : Nat} (h : od_BH T T6 N j e k) (hj : j < N) (hc : T j = 38 ∨ T j = 124) : od_AH T T6 (j + 1) e k := by
  obtain ⟨y, g, v, h1, h2, h3⟩ := h
  have hn : rd_nx y (T j) (nI e) g v k = 2 := by
    rw [h3 hj]
    unfold oc_beh
    rw [if_pos hc]
  have h4 := od_AU_s h1 (by rw [hn]; decide)
  have e1 : (if T j = 40 then (1 : Int32) else if T j = 41 then -1 else 0) = 0 := by rcases hc with c | c <;> rw [c] <;> rfl
  rw [hn, e1, od_add0, if_neg (by decide)] at h4
  exact ⟨_, _, h4⟩
/-- in the digits of a row -/
theorem od_code {i k : Nat} {g v : Int32} (h : od_AU T T6 i 0 0 g v k) (hk : k < 20) : ∀ j, 1 ≤ j → j ≤ 6 → od_ds T N i j → od_AU T T6 (i + j) 1 0 (nI j) v k := by
  intro j
  induction j with
  | zero => intro h1; omega
  | succ j ih =>
    intro _ hj hds
    by_cases j0 : j = 0
    · subst j0
      have hd := hds 0 (by omega)
      rw [od_lkt (od_lkd hd)] at hd
      have hd : oc_dig (T i) = true := hd
      have hn : rd_nx 0 (T i) 0 g v k = 1 := by
        unfold rd_nx
        rw [if_pos rfl, if_pos ⟨hd, by omega⟩]
      have h2 := od_AU_s h (by rw [hn]; decide)
      rw [hn, od_dg41 hd, od_add0, if_neg (by decide)] at h2
      exact h2
    · have h1 := ih (by omega) (by omega) (fun a ha => hds a (by omega))
      have hd := hds j (by omega)
      rw [od_lkt (od_lkd hd)] at hd
      have hn : rd_nx 1 (T (i + j)) 0 (nI j) v k = 1 := by
        unfold rd_nx
        rw [if_neg (by decide), if_pos rfl, if_pos ⟨hd, od_nle (b := 6) (by omega) (by decide)⟩]
      have h2 := od_AU_s h1 (by rw [hn]; decide)
      rw [hn, od_dg41 hd, od_add0, if_neg (by decide)] at h2
      have eg : rd_g 1 (T (i + j)) (nI j) = nI (j + 1) := by
        unfold rd_g
        rw [if_neg (by decide), if_pos rfl, nI_1]
      have ev : rd_v 1 (T (i + j)) (nI j) v = v := by
        unfold rd_v
        rw [if_neg (by decide), if_pos rfl]
      rw [eg, ev] at h2
      exact h2
/-- a row's digits end badly -/
theorem od_codeE {i k j : Nat} {g v : Int32} (h : od_AU T T6 i 0 0 g v k) (hk : k < 20) (hk0 : i < N ∨ k = 0) (hj : j ≤ 6) (hds : od_ds T N i j) (hN : i + j ≤ N) (hc : (j = 0 ∧ oc_dig (od_lk T N i) = false) ∨ (j = 6 ∧ oc_dig (od_lk T N (i + j)) = true)) : od_ER T T6 N (i + j) := by
  rcases hc with ⟨a, b⟩ | ⟨a, b⟩
  · subst a
    rcases Nat.lt_or_ge i N with z | z
    · refine Or.inl ⟨z, 0, 0, g, v, k, h, ?_⟩
      rw [od_lkt z] at b
      unfold rd_nx
      rw [if_pos rfl, if_neg (by rintro ⟨c, -⟩; rw [show i + 0 = i from rfl, b] at c; cases c)]
      exact od_nm1
    · have e : i = N := by omega
      subst e
      exact Or.inr ⟨rfl, 0, 0, g, v, k, h, Or.inr (hk0.resolve_left (by omega))⟩
  · have h1 := od_code (N := N) h hk j (by omega) hj hds
    refine od_erN h1 hN (by decide) (fun hlt => ?_)
    rw [od_lkt hlt] at b
    unfold rd_nx
    rw [if_neg (by decide), if_pos rfl, if_neg (by rintro ⟨-, z⟩; exact z ((oc_le (a := 6) (b := j) rfl rfl (by decide) (by omega)).mpr (by omega))), if_neg (by intro z; rw [z] at b; exact absurd b (by decide))]
    exact od_nm1
theorem od_colon {i k j : Nat} {g v : Int32} (h : od_AU T T6 i 0 0 g v k) (hk : k < 20) (hj1 : 1 ≤ j) (hj : j ≤ 6) (hds : od_ds T N i j) (hc : T (i + j) = 58) : od_AH T T6 (i + j + 1) 0 k := by
  have h1 := od_code (N := N) h hk j hj1 hj hds
  have hn : rd_nx 1 (T (i + j)) 0 (nI j) v k = 2 := by
    rw [hc]
    unfold rd_nx
    rw [if_neg (by decide), if_pos rfl, if_neg (by rintro ⟨z, -⟩; exact absurd z (by decide)), if_pos rfl]
  have h2 := od_AU_s h1 (by rw [hn]; decide)
  rw [hn, hc, if_neg (by decide), if_neg (by decide), od_add0, if_neg (by decide)] at h2
  exact ⟨_, _, h2⟩
theorem od_colonE {i k j : Nat} {g v : Int32} (h : od_AU T T6 i 0 0 g v k) (hk : k < 20) (hj1 : 1 ≤ j) (hj : j ≤ 6) (hds : od_ds T N i j) (hN : i + j ≤ N) (hnd : oc_dig (od_lk T N (i + j)) = false) (hc : ¬ od_lk T N (i + j) = 58) : od_ER T T6 N (i + j) := by
  have h1 := od_code (N := N) h hk j hj1 hj hds
  refine od_erN h1 hN (by decide) (fun hlt => ?_)
  rw [od_lkt hlt] at hnd hc
  unfold rd_nx
  rw [if_neg (by decide), if_pos rfl, if_neg (by rintro ⟨z, -⟩; rw [hnd] at z; cases z), if_neg hc]
  exact od_nm1
/-- a row ends -/
theorem od_semi {j k : Nat} (h : od_BH T T6 N j 0 k) (hj : j < N) (hc : T j = 59) : ∃ g v, od_AU T T6 (j + 1) 0 0 g v (k + 1) := by
  obtain ⟨y, g, v, h1, h2, h3⟩ := h
  have hn : rd_nx y (T j) (nI 0) g v k = 0 := by
    rw [h3 hj, hc]
    unfold oc_beh
    rw [if_neg (by decide), if_neg (by decide), if_pos ⟨rfl, rfl⟩]
  have h4 := od_AU_s h1 (by rw [hn]; decide)
  rw [hn, hc, if_neg (by decide), if_neg (by decide), od_add0, if_pos rfl] at h4
  exact ⟨_, _, h4⟩
theorem od_semiE {j k : Nat} (h : od_BH T T6 N j 0 k) (hj : j ≤ N) (h1 : ¬ od_lk T N j = 38) (h2 : ¬ od_lk T N j = 124) (h3 : ¬ od_lk T N j = 59) : od_ER T T6 N j := by
  obtain ⟨y, g, v, a1, a2, a3⟩ := h
  refine od_erN a1 hj a2 (fun hlt => ?_)
  rw [od_lkt hlt] at h1 h2 h3
  rw [a3 hlt]
  unfold oc_beh
  rw [if_neg (by rintro (z | z); exact h1 z; exact h2 z), if_neg (by rintro ⟨-, z⟩; exact absurd z (by decide)), if_neg (by rintro ⟨z, -⟩; exact h3 z)]
  exact od_nm1
/-- too many rows -/
theorem od_many {i k : Nat} {g v : Int32} (h : od_AU T T6 i 0 0 g v k) (hi : i < N) (hk : 20 ≤ k) : od_ER T T6 N i := by
  refine Or.inl ⟨hi, 0, 0, g, v, k, h, ?_⟩
  unfold rd_nx
  rw [if_pos rfl, if_neg (by rintro ⟨-, z⟩; exact z hk)]
  exact od_nm1
end OAU2
