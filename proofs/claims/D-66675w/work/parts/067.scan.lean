/-! ===== the model's asking, sign by sign, says what the tree says ===== -/
section OSC
variable {f : Nat → Int32} {hv : Nat → Bool} {b : Nat}
theorem rl_app : ∀ (n m q : Nat) (z : rl_S), rl_run f hv b (n + m) q z = (rl_run f hv b n q z).bind (rl_run f hv b m (q + n)) := by
  intro n
  induction n with
  | zero => intro m q z; rw [Nat.zero_add]; rfl
  | succ n ih =>
    intro m q z
    rw [show n + 1 + m = (n + m) + 1 by omega]
    show (rl_st f hv b q z).bind (rl_run f hv b (n + m) (q + 1)) = ((rl_st f hv b q z).bind (rl_run f hv b n (q + 1))).bind (rl_run f hv b m (q + (n + 1)))
    cases rl_st f hv b q z with
    | none => rfl
    | some z1 =>
      show rl_run f hv b (n + m) (q + 1) z1 = (rl_run f hv b n (q + 1) z1).bind (rl_run f hv b m (q + (n + 1)))
      rw [ih m (q + 1) z1, show q + 1 + n = q + (n + 1) by omega]
theorem rl_seq {i j j2 : Nat} {z z1 z2 : rl_S} (h1 : i ≤ j) (h2 : j ≤ j2) (a : rl_run f hv b (j - i) i z = some z1) (c : rl_run f hv b (j2 - j) j z1 = some z2) : rl_run f hv b (j2 - i) i z = some z2 := by
  rw [show j2 - i = (j - i) + (j2 - j) by omega, rl_app, a]
  show rl_run f hv b (j2 - j) (i + (j - i)) z1 = some z2
  rw [show i + (j - i) = j by omega]
  exact c
theorem rl_one {i : Nat} {z z1 : rl_S} (h : rl_st f hv b i z = some z1) : rl_run f hv b (i + 1 - i) i z = some z1 := by
  rw [show i + 1 - i = 1 by omega]
  show (rl_st f hv b i z).bind (rl_run f hv b 0 (i + 1)) = some z1
  rw [h]
  rfl
theorem rl_dig1 {q : Nat} (z : rl_S) (h : oc_dig (f q) = true) : rl_st f hv b q z = some z := by
  obtain ⟨g, x, y, w, k, t⟩ := z
  have h1 : ¬ f q = 40 := fun e => by rw [e] at h; exact absurd h (by decide)
  have h2 : ¬ f q = 41 := fun e => by rw [e] at h; exact absurd h (by decide)
  have h3 : ¬ f q = 124 := fun e => by rw [e] at h; exact absurd h (by decide)
  unfold rl_st
  simp only
  rw [if_neg h1, if_neg h2, if_neg h3, if_neg (by rintro ⟨-, -, z⟩; rw [h] at z; cases z)]
theorem rl_digs : ∀ (n q : Nat) (z : rl_S), (∀ a, q ≤ a → a < q + n → oc_dig (f a) = true) → rl_run f hv b n q z = some z := by
  intro n
  induction n with
  | zero => intro q z _; rfl
  | succ n ih =>
    intro q z h
    show (rl_st f hv b q z).bind (rl_run f hv b n (q + 1)) = some z
    rw [rl_dig1 z (h q (by omega) (by omega))]
    exact ih (q + 1) z (fun a h1 h2 => h a (by omega) (by omega))
end OSC
/-- a factor or a term, from i to j, in e brackets -/
def od_RS (f : Nat → Int32) (b e i j : Nat) (S : od_Sm) : Prop := i ≤ j ∧ ∀ (hv : Nat → Bool) (x y w : Nat → Int32) (k : Nat) (t : Nat → Int32), k + (j - i) ≤ 300 → (S hv).2.length ≤ j - i ∧ ∃ x2 y2 w2 : Nat → Int32,
  rl_run f hv b (j - i) i (e, x, y, w, k, t) = some (e, x2, y2, w2, if rl_ask (x e) (y e) (w e) = true then od_lg b hv (S hv).2 (k, t) else (k, t)) ∧ (∀ g, g ≤ e → x2 g = x g ∧ y2 g = y g) ∧ (∀ g, g < e → w2 g = w g) ∧ w2 e = if rl_ask (x e) (y e) (w e) = true then oc_b (S hv).1 else w e
/-- a rule, from i to j, in e brackets -/
def od_RR (f : Nat → Int32) (b e i j : Nat) (S : od_Sm) : Prop := i ≤ j ∧ ∀ (hv : Nat → Bool) (x y w : Nat → Int32) (k : Nat) (t : Nat → Int32), k + (j - i) ≤ 300 → y e = 0 → w e = 1 → (S hv).2.length ≤ j - i ∧ ∃ x2 y2 w2 : Nat → Int32,
  rl_run f hv b (j - i) i (e, x, y, w, k, t) = some (e, x2, y2, w2, if ¬ x e = 0 then od_lg b hv (S hv).2 (k, t) else (k, t)) ∧ (∀ g, g ≤ e → x2 g = x g) ∧ (∀ g, g < e → y2 g = y g ∧ w2 g = w g) ∧ (¬ x e = 0 → rl_or (y2 e) (w2 e) = (S hv).1)
theorem od_all1 (S : od_Sm) : od_all [S] = S := by
  funext hv
  show (if (S hv).1 = true then (true, (S hv).2 ++ []) else (false, (S hv).2)) = S hv
  rw [List.append_nil]
  cases h : (S hv).1 with
  | true => simp [← h]
  | false => simp [← h]
theorem od_any1 (S : od_Sm) : od_any [S] = S := by
  funext hv
  show (if (S hv).1 = true then (true, (S hv).2) else (false, (S hv).2 ++ [])) = S hv
  rw [List.append_nil]
  cases h : (S hv).1 with
  | true => simp [← h]
  | false => simp [← h]
theorem od_all_app (S : od_Sm) (hv : Nat → Bool) : ∀ ss : List od_Sm, od_all (ss ++ [S]) hv = if (od_all ss hv).1 = true then ((S hv).1, (od_all ss hv).2 ++ (S hv).2) else od_all ss hv := by
  intro ss
  induction ss with
  | nil =>
    show od_all [S] hv = _
    rw [od_all1]
    simp [od_all]
  | cons a ss ih =>
    simp only [List.cons_append, od_all]
    rw [ih]
    by_cases h : (a hv).1 = true
    · by_cases h2 : (od_all ss hv).1 = true
      · simp [h, h2, List.append_assoc]
      · simp [h, h2]
    · simp [h]
theorem od_any_app (S : od_Sm) (hv : Nat → Bool) : ∀ ss : List od_Sm, od_any (ss ++ [S]) hv = if (od_any ss hv).1 = true then od_any ss hv else ((S hv).1, (od_any ss hv).2 ++ (S hv).2) := by
  intro ss
  induction ss with
  | nil =>
    show od_any [S] hv = _
    rw [od_any1]
    simp [od_any]
  | cons a ss ih =>
    simp only [List.cons_append, od_any]
    rw [ih]
    by_cases h : (a hv).1 = true
    · simp [h]
    · by_cases h2 : (od_any ss hv).1 = true
      · simp [h, h2]
      · simp [h, h2, List.append_assoc]
section OSC2
variable {f : Nat → Int32} {b : Nat}
theorem od_RSleaf {e i j : Nat} (hij : i < j) (h1 : ¬ f i = 40) (h2 : ¬ f i = 41) (h3 : ¬ f i = 124) (h4 : ¬ f i = 38) (h5 : oc_dig (f i) = false) (hd : ∀ a, i < a → a < j → oc_dig (f a) = true) : od_RS f b e i j (od_leaf i) := by
  refine ⟨by omega, fun hv x y w k t hk => ⟨by show 1 ≤ j - i; omega, ?_⟩⟩
  cases hq : rl_ask (x e) (y e) (w e) with
  | true =>
    have hs : rl_st f hv b i (e, x, y, w, k, t) = some (e, x, y, upd w e (oc_b (hv i)), k + 1, upd t k (2 * (nI i - nI b) + oc_b (hv i))) := by
      unfold rl_st
      simp only
      rw [if_neg h1, if_neg h2, if_neg h3, if_pos ⟨hq, h4, h5⟩, if_pos (by omega)]
    refine ⟨x, y, upd w e (oc_b (hv i)), rl_seq (j := i + 1) (by omega) (by omega) (rl_one hs) (rl_digs _ _ _ (fun a ha1 ha2 => hd a (by omega) (by omega))), fun g _ => ⟨rfl, rfl⟩, fun g hg => ?_, ?_⟩
    · simp [upd, show ¬ g = e by omega]
    · simp [upd, od_leaf]
  | false =>
    have hs : rl_st f hv b i (e, x, y, w, k, t) = some (e, x, y, w, k, t) := by
      unfold rl_st
      simp only
      rw [if_neg h1, if_neg h2, if_neg h3, if_neg (by rintro ⟨z, -⟩; rw [hq] at z; cases z)]
    exact ⟨x, y, w, rl_seq (j := i + 1) (by omega) (by omega) (rl_one hs) (rl_digs _ _ _ (fun a ha1 ha2 => hd a (by omega) (by omega))), fun g _ => ⟨rfl, rfl⟩, fun g hg => rfl, rfl⟩
/-- a term goes on by '&' -/
theorem od_RSand {e i j j2 : Nat} {ss : List od_Sm} {S : od_Sm} (h : od_RS f b e i j (od_all ss)) (hc : f j = 38) (h2 : od_RS f b e (j + 1) j2 S) : od_RS f b e i j2 (od_all (ss ++ [S])) := by
  obtain ⟨a1, a2⟩ := h
  obtain ⟨c1, c2⟩ := h2
  refine ⟨by omega, fun hv x y w k t hk => ?_⟩
  obtain ⟨l1, x1, y1, w1, r1, p1, p2, p3⟩ := a2 hv x y w k t (by omega)
  have hs : ∀ z : rl_S, rl_st f hv b j z = some z := by
    intro z
    obtain ⟨g, x, y, w, k, t⟩ := z
    unfold rl_st
    simp only
    rw [hc, if_neg (by decide), if_neg (by decide), if_neg (by decide), if_neg (by rintro ⟨-, z, -⟩; exact z rfl)]
  have hx := (p1 e (Nat.le_refl _)).1
  have hy := (p1 e (Nat.le_refl _)).2
  cases hq : rl_ask (x e) (y e) (w e) with
  | false =>
    rw [hq] at r1 p3
    simp only [Bool.false_eq_true, if_false] at r1 p3
    obtain ⟨l2, x2, y2, w2, r2, s1, s2, s3⟩ := c2 hv x1 y1 w1 k t (by omega)
    rw [hx, hy, p3, hq] at r2 s3
    simp only [Bool.false_eq_true, if_false] at r2 s3
    refine ⟨?_, x2, y2, w2, ?_, fun g hg => ⟨(s1 g hg).1.trans (p1 g hg).1, (s1 g hg).2.trans (p1 g hg).2⟩, fun g hg => (s2 g hg).trans (p2 g hg), by simp [s3, p3]⟩
    · rw [od_all_app]; split
      · simp only [List.length_append]; omega
      · omega
    · simp only [Bool.false_eq_true, if_false]
      exact rl_seq (j := j) (by omega) (by omega) r1 (rl_seq (j := j + 1) (by omega) (by omega) (rl_one (hs _)) r2)
  | true =>
    rw [hq] at r1 p3
    simp only [if_true] at r1 p3
    have hk1 : (od_lg b hv (od_all ss hv).2 (k, t)).1 = k + (od_all ss hv).2.length := od_lg_len b hv _ _
    obtain ⟨l2, x2, y2, w2, r2, s1, s2, s3⟩ := c2 hv x1 y1 w1 (od_lg b hv (od_all ss hv).2 (k, t)).1 (od_lg b hv (od_all ss hv).2 (k, t)).2 (by omega)
    have hx0 : ¬ x e = 0 ∧ y e = 0 := by
      unfold rl_ask at hq
      simp only [Bool.and_eq_true, Bool.not_eq_true', decide_eq_false_iff_not, decide_eq_true_eq] at hq
      exact hq.1
    have hask : rl_ask (x1 e) (y1 e) (w1 e) = (od_all ss hv).1 := by
      rw [hx, hy, p3]
      unfold rl_ask
      rw [decide_eq_false hx0.1, decide_eq_true hx0.2]
      cases (od_all ss hv).1 <;> rfl
    rw [hask] at r2 s3
    refine ⟨?_, x2, y2, w2, ?_, fun g hg => ⟨(s1 g hg).1.trans (p1 g hg).1, (s1 g hg).2.trans (p1 g hg).2⟩, fun g hg => (s2 g hg).trans (p2 g hg), ?_⟩
    · rw [od_all_app]; split
      · simp only [List.length_append]; omega
      · omega
    · simp only [if_true]
      have r3 := rl_seq (j := j) (by omega) (by omega) r1 (rl_seq (j := j + 1) (by omega) (by omega) (rl_one (hs _)) r2)
      rw [r3, od_all_app]
      cases hr : (od_all ss hv).1 with
      | true => simp only [if_true]; rw [od_lg_app]
      | false => simp only [Bool.false_eq_true, if_false]
    · simp only [if_true]
      rw [s3, od_all_app]
      cases hr : (od_all ss hv).1 with
      | true => simp only [if_true]
      | false => simp only [Bool.false_eq_true, if_false]; rw [p3, hr]
theorem rl_or0 (r : Bool) : rl_or 0 (oc_b r) = r := by cases r <;> rfl
/-- a rule's first term -/
theorem od_RRone {e i j : Nat} {S : od_Sm} (h : od_RS f b e i j S) : od_RR f b e i j (od_any [S]) := by
  rw [od_any1]
  obtain ⟨a1, a2⟩ := h
  refine ⟨a1, fun hv x y w k t hk hy hw => ?_⟩
  obtain ⟨l1, x1, y1, w1, r1, p1, p2, p3⟩ := a2 hv x y w k t hk
  have hask : rl_ask (x e) (y e) (w e) = !decide (x e = 0) := by
    rw [hy, hw]
    unfold rl_ask
    simp
  refine ⟨l1, x1, y1, w1, ?_, fun g hg => (p1 g hg).1, fun g hg => ⟨(p1 g (by omega)).2, p2 g hg⟩, fun hx => ?_⟩
  · rw [r1, hask]
    by_cases hx : x e = 0
    · simp [hx]
    · simp [hx]
  · rw [hask] at p3
    rw [(p1 e (Nat.le_refl _)).2, hy, p3]
    simp only [hx, decide_false, Bool.not_false, if_true]
    exact rl_or0 _
/-- a rule goes on by '|' -/
theorem od_RRor {e i j j2 : Nat} {ss : List od_Sm} {S : od_Sm} (h : od_RR f b e i j (od_any ss)) (hc : f j = 124) (h2 : od_RS f b e (j + 1) j2 S) : od_RR f b e i j2 (od_any (ss ++ [S])) := by
  obtain ⟨a1, a2⟩ := h
  obtain ⟨c1, c2⟩ := h2
  refine ⟨by omega, fun hv x y w k t hk hy0 hw0 => ?_⟩
  obtain ⟨l1, x1, y1, w1, r1, p1, p2, p3⟩ := a2 hv x y w k t (by omega) hy0 hw0
  have hs : ∀ P : Nat × (Nat → Int32), rl_st f hv b j (e, x1, y1, w1, P) = some (e, x1, upd y1 e (oc_b (rl_or (y1 e) (w1 e))), upd w1 e 1, P) := by
    intro P
    unfold rl_st
    simp only
    rw [hc, if_neg (by decide), if_neg (by decide), if_pos rfl]
  have hx := p1 e (Nat.le_refl _)
  by_cases hx0 : x e = 0
  · rw [if_neg (by simp [hx0])] at r1
    obtain ⟨l2, x2, y2, w2, r2, s1, s2, s3⟩ := c2 hv x1 (upd y1 e (oc_b (rl_or (y1 e) (w1 e)))) (upd w1 e 1) k t (by omega)
    have hask : rl_ask (x1 e) (upd y1 e (oc_b (rl_or (y1 e) (w1 e))) e) (upd w1 e 1 e) = false := by
      rw [hx, hx0]
      unfold rl_ask
      simp
    rw [hask] at r2
    simp only [Bool.false_eq_true, if_false] at r2
    refine ⟨?_, x2, y2, w2, ?_, fun g hg => (s1 g hg).1.trans (p1 g hg), fun g hg => ⟨(s1 g (by omega)).2.trans ?_, (s2 g hg).trans ?_⟩, fun z => absurd hx0 z⟩
    · rw [od_any_app]; split
      · omega
      · simp only [List.length_append]; omega
    · rw [if_neg (by simp [hx0])]
      exact rl_seq (j := j) (by omega) (by omega) r1 (rl_seq (j := j + 1) (by omega) (by omega) (rl_one (hs _)) r2)
    · simp only [upd, show ¬ g = e by omega, if_false]; exact (p2 g hg).1
    · simp only [upd, show ¬ g = e by omega, if_false]; exact (p2 g hg).2
  · rw [if_pos hx0] at r1
    have p4 := p3 hx0
    have hk1 : (od_lg b hv (od_any ss hv).2 (k, t)).1 = k + (od_any ss hv).2.length := od_lg_len b hv _ _
    obtain ⟨l2, x2, y2, w2, r2, s1, s2, s3⟩ := c2 hv x1 (upd y1 e (oc_b (rl_or (y1 e) (w1 e)))) (upd w1 e 1) (od_lg b hv (od_any ss hv).2 (k, t)).1 (od_lg b hv (od_any ss hv).2 (k, t)).2 (by omega)
    have hye : upd y1 e (oc_b (rl_or (y1 e) (w1 e))) e = oc_b (od_any ss hv).1 := by simp [upd, p4]
    have hwe : upd w1 e 1 e = (1 : Int32) := by simp [upd]
    have hask : rl_ask (x1 e) (upd y1 e (oc_b (rl_or (y1 e) (w1 e))) e) (upd w1 e 1 e) = !(od_any ss hv).1 := by
      rw [hx, hye, hwe]
      unfold rl_ask
      rw [decide_eq_false hx0]
      cases (od_any ss hv).1 <;> rfl
    rw [hask] at r2 s3
    have hy2 : y2 e = oc_b (od_any ss hv).1 := ((s1 e (Nat.le_refl _)).2).trans hye
    refine ⟨?_, x2, y2, w2, ?_, fun g hg => (s1 g hg).1.trans (p1 g hg), fun g hg => ⟨(s1 g (by omega)).2.trans ?_, (s2 g hg).trans ?_⟩, fun _ => ?_⟩
    · rw [od_any_app]; split
      · omega
      · simp only [List.length_append]; omega
    · rw [if_pos hx0]
      have r3 := rl_seq (j := j) (by omega) (by omega) r1 (rl_seq (j := j + 1) (by omega) (by omega) (rl_one (hs _)) r2)
      rw [r3, od_any_app]
      cases hr : (od_any ss hv).1 with
      | false => simp only [Bool.not_false, if_true, Bool.false_eq_true, if_false]; rw [od_lg_app]
      | true => simp only [Bool.not_true, if_true, Bool.false_eq_true, if_false]
    · simp only [upd, show ¬ g = e by omega, if_false]; exact (p2 g hg).1
    · simp only [upd, show ¬ g = e by omega, if_false]; exact (p2 g hg).2
    · rw [hy2, s3, od_any_app]
      cases hr : (od_any ss hv).1 with
      | false => simp only [Bool.not_false, if_true, Bool.false_eq_true, if_false]; exact rl_or0 _
      | true =>
        simp only [Bool.not_true, if_true, Bool.false_eq_true, if_false]
        rw [hwe, hr]; rfl
/-- a rule in brackets is a factor -/
theorem od_RSbr {e i j : Nat} {S : od_Sm} (h : od_RR f b (e + 1) (i + 1) j S) (he : e < 8) (h1 : f i = 40) (h2 : f j = 41) : od_RS f b e i (j + 1) S := by
  obtain ⟨a1, a2⟩ := h
  refine ⟨by omega, fun hv x y w k t hk => ?_⟩
  have hs : rl_st f hv b i (e, x, y, w, k, t) = some (e + 1, upd x (e + 1) (oc_b (rl_ask (x e) (y e) (w e))), upd y (e + 1) 0, upd w (e + 1) 1, k, t) := by
    unfold rl_st
    simp only
    rw [if_pos h1, if_pos he]
  obtain ⟨l1, x1, y1, w1, r1, p1, p2, p3⟩ := a2 hv (upd x (e + 1) (oc_b (rl_ask (x e) (y e) (w e)))) (upd y (e + 1) 0) (upd w (e + 1) 1) k t (by omega) (by simp [upd]) (by simp [upd])
  have hxe : upd x (e + 1) (oc_b (rl_ask (x e) (y e) (w e))) (e + 1) = oc_b (rl_ask (x e) (y e) (w e)) := by simp [upd]
  rw [hxe] at r1 p3
  have hx1 : x1 (e + 1) = oc_b (rl_ask (x e) (y e) (w e)) := (p1 (e + 1) (Nat.le_refl _)).trans hxe
  have hs2 : ∀ P : Nat × (Nat → Int32), rl_st f hv b j (e + 1, x1, y1, w1, P) = some (e, x1, y1, upd w1 e (if x1 (e + 1) = 0 then w1 e else oc_b (rl_or (y1 (e + 1)) (w1 (e + 1)))), P) := by
    intro P
    unfold rl_st
    simp only
    rw [h2, if_neg (by decide), if_pos rfl, if_pos (by omega)]
    rfl
  have hlow : ∀ g, g ≤ e → x1 g = x g ∧ y1 g = y g ∧ w1 g = w g := by
    intro g hg
    have e1 := p1 g (by omega)
    have e2 := p2 g (by omega)
    simp only [upd, show ¬ g = e + 1 by omega, if_false] at e1 e2
    exact ⟨e1, e2⟩
  refine ⟨by omega, x1, y1, upd w1 e (if x1 (e + 1) = 0 then w1 e else oc_b (rl_or (y1 (e + 1)) (w1 (e + 1)))), ?_, fun g hg => ⟨(hlow g hg).1, (hlow g hg).2.1⟩, fun g hg => ?_, ?_⟩
  · have r3 := rl_seq (j := i + 1) (by omega) (by omega) (rl_one hs) (rl_seq (j := j) (by omega) (by omega) r1 (rl_one (hs2 _)))
    rw [r3]
    cases hq : rl_ask (x e) (y e) (w e) with
    | true => simp [oc_b]
    | false => simp [oc_b]
  · simp only [upd, show ¬ g = e by omega, if_false]; exact (hlow g (by omega)).2.2
  · simp only [upd, if_true]
    rw [hx1]
    cases hq : rl_ask (x e) (y e) (w e) with
    | true =>
      rw [hq] at p3
      rw [if_neg (by decide), p3 (by decide)]
      simp
    | false =>
      rw [if_pos (by decide)]
      simp only [Bool.false_eq_true, if_false]
      exact (hlow e (Nat.le_refl _)).2.2
end OSC2
