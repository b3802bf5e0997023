/-! ===== reading a rule: what factor, term and rule leave ===== -/
section OPA
variable {D : va_G} {d : Nat → ClassId} {E0 : Nat} {f : Nat → Int32} {b : Nat} {nm : Nat → Int32} {B B2 : Nat → Prop} {H H1 : Heap}
theorem od_lf.mv {a q : Nat} (h : od_lf D f b nm B H a q) (hB : ∀ z, B z → z < H.size → B2 z) (hk : ∀ z, B z → z < H.size → H1[z]? = H[z]?) : od_lf D f b nm B2 H1 a q := by
  have hlt := h.ob.lt
  obtain ⟨h0, h⟩ := h
  have e := hk a h0 hlt
  refine ⟨hB a h0 hlt, ?_⟩
  rcases h with h | h | h | h | h | h
  · exact Or.inl ⟨h.1, h.2.kept e⟩
  · exact Or.inr (Or.inl ⟨h.1, h.2.kept e⟩)
  · exact Or.inr (Or.inr (Or.inl ⟨h.1, h.2.kept e⟩))
  · exact Or.inr (Or.inr (Or.inr (Or.inl ⟨h.1, h.2.kept e⟩)))
  · exact Or.inr (Or.inr (Or.inr (Or.inr (Or.inl ⟨h.1, h.2.kept e⟩))))
  · exact Or.inr (Or.inr (Or.inr (Or.inr (Or.inr ⟨h.1, h.2.kept e⟩))))
theorem od_NL.mv {ci a : Nat} {ss : List od_Sm} {Nd Nd2 : Nat → od_Sm → Prop} (h : od_NL D d E0 B H ci Nd a ss) (hB : ∀ z, B z → z < H.size → B2 z) (hk : ∀ z, B z → z < H.size → H1[z]? = H[z]?) (hN : ∀ y S, Nd y S → Nd2 y S) : od_NL D d E0 B2 H1 ci Nd2 a ss := by
  obtain ⟨li, ar, cp, el, h1, h2, h3, h4, h5, h6⟩ := h
  refine ⟨li, ar, cp, el, hB _ h1 h4.lt, hB _ h2 h5.lt, fun z => hB _ (h3 z) (h5.ltr z), h4.kept (hk _ h1 h4.lt), h5.kept (hk _ h2 h5.lt) (fun z => hk _ (h3 z) (h5.ltr z)), fun i S hi => ?_⟩
  obtain ⟨y, e1, e2⟩ := h6 i S hi
  exact ⟨y, e1, hN y S e2⟩
theorem od_Tm.mv {a : Nat} {S : od_Sm} {Nd Nd2 : Nat → od_Sm → Prop} (h : od_Tm D d E0 B H Nd a S) (hB : ∀ z, B z → z < H.size → B2 z) (hk : ∀ z, B z → z < H.size → H1[z]? = H[z]?) (hN : ∀ y S, Nd y S → Nd2 y S) : od_Tm D d E0 B2 H1 Nd2 a S := by
  obtain ⟨ss, h1, h2⟩ := h
  exact ⟨ss, h1.mv hB hk hN, h2⟩
theorem od_Ru.mv {a : Nat} {S : od_Sm} {Nd Nd2 : Nat → od_Sm → Prop} (h : od_Ru D d E0 B H Nd a S) (hB : ∀ z, B z → z < H.size → B2 z) (hk : ∀ z, B z → z < H.size → H1[z]? = H[z]?) (hN : ∀ y S, Nd y S → Nd2 y S) : od_Ru D d E0 B2 H1 Nd2 a S := by
  obtain ⟨ss, h1, h2⟩ := h
  exact ⟨ss, h1.mv hB hk (fun y S z => z.mv hB hk hN), h2⟩
theorem od_Fa.mv (hB : ∀ z, B z → z < H.size → B2 z) (hk : ∀ z, B z → z < H.size → H1[z]? = H[z]?) : ∀ (e a : Nat) (S : od_Sm), od_Fa D d E0 f b nm B H e a S → od_Fa D d E0 f b nm B2 H1 e a S := by
  intro e
  induction e with
  | zero => intro a S h; obtain ⟨q, h1, h2⟩ := h; exact ⟨q, h1.mv hB hk, h2⟩
  | succ e ih =>
    intro a S h
    rcases h with ⟨q, h1, h2⟩ | h
    · exact Or.inl ⟨q, h1.mv hB hk, h2⟩
    · exact Or.inr (h.mv hB hk ih)
end OPA
/-- a kind of node that goes along where its cells stay -/
def od_NdK {α : Type} (D : va_G) (Nd : (Nat → Prop) → Heap → Nat → α → Prop) : Prop := (∀ B H y S, Nd B H y S → oc_Ob D H y ∧ B y) ∧ ∀ (B B2 : Nat → Prop) (H H1 : Heap) y S, Nd B H y S → (∀ z, B z → z < H.size → B2 z) → (∀ z, B z → z < H.size → H1[z]? = H[z]?) → Nd B2 H1 y S
abbrev od_dF (D : va_G) (d : Nat → ClassId) (E0 : Nat) (f : Nat → Int32) (b : Nat) (nm : Nat → Int32) (e : Nat) : (Nat → Prop) → Heap → Nat → od_Sm → Prop := fun B H y S => od_Fa D d E0 f b nm B H e y S
abbrev od_dT (D : va_G) (d : Nat → ClassId) (E0 : Nat) (f : Nat → Int32) (b : Nat) (nm : Nat → Int32) (e : Nat) : (Nat → Prop) → Heap → Nat → od_Sm → Prop := fun B H y S => od_Tm D d E0 B H (od_Fa D d E0 f b nm B H e) y S
abbrev od_dR (D : va_G) (d : Nat → ClassId) (E0 : Nat) (f : Nat → Int32) (b : Nat) (nm : Nat → Int32) (e : Nat) : (Nat → Prop) → Heap → Nat → od_Sm → Prop := fun B H y S => od_Ru D d E0 B H (od_Fa D d E0 f b nm B H e) y S
theorem od_NdF {D : va_G} {d : Nat → ClassId} {E0 : Nat} {f : Nat → Int32} {b : Nat} {nm : Nat → Int32} {e : Nat} : od_NdK D (od_dF D d E0 f b nm e) := ⟨fun B H y S h => ⟨od_Fa.ob h, od_Fa.isB h⟩, fun B B2 H H1 y S h h1 h2 => od_Fa.mv h1 h2 e y S h⟩
theorem od_NdT {D : va_G} {d : Nat → ClassId} {E0 : Nat} {f : Nat → Int32} {b : Nat} {nm : Nat → Int32} {e : Nat} : od_NdK D (od_dT D d E0 f b nm e) := ⟨fun B H y S h => by obtain ⟨ss, ⟨li, ar, cp, el, h1, -, -, h4, -⟩, -⟩ := h; exact ⟨⟨_, _, h4⟩, h1⟩, fun B B2 H H1 y S h h1 h2 => od_Tm.mv h h1 h2 (od_Fa.mv h1 h2 e)⟩
theorem od_NdR {D : va_G} {d : Nat → ClassId} {E0 : Nat} {f : Nat → Int32} {b : Nat} {nm : Nat → Int32} {e : Nat} : od_NdK D (od_dR D d E0 f b nm e) := ⟨fun B H y S h => by obtain ⟨ss, ⟨li, ar, cp, el, h1, -, -, h4, -⟩, -⟩ := h; exact ⟨⟨_, _, h4⟩, h1⟩, fun B B2 H H1 y S h h1 h2 => od_Ru.mv h h1 h2 (od_Fa.mv h1 h2 e)⟩
/-- a list of nodes that is being made: cells from Hs on; a0 holds it -/
def od_LB {α : Type} (D : va_G) (d : Nat → ClassId) (E0 : Nat) (Nd : (Nat → Prop) → Heap → Nat → α → Prop) (Hs a0 : Nat) (H : Heap) (li ar cp : Nat) (el : Nat → Option Nat) (ss : List α) : Prop :=
  od_L D d E0 H li ar ss.length cp el ∧ cp ≤ 2 * ss.length + 12 ∧ Hs ≤ li ∧ (ar ≠ E0 → Hs ≤ ar) ∧ a0 ≠ li ∧ (ar ≠ E0 → a0 ≠ ar) ∧ a0 < H.size ∧ ∀ (i : Nat) (S : α), ss[i]? = some S → ∃ y : Nat, el i = some y ∧ Nd (fun z => Hs ≤ z ∧ z ≠ li ∧ (ar ≠ E0 → z ≠ ar) ∧ z ≠ a0) H y S
theorem od_LB.kept {D : va_G} {d : Nat → ClassId} {E0 : Nat} {α : Type} {Nd : (Nat → Prop) → Heap → Nat → α → Prop} {Hs a0 : Nat} {H H1 : Heap} {li ar cp : Nat} {el : Nat → Option Nat} {ss : List α} (hN : od_NdK D Nd) (h : od_LB D d E0 Nd Hs a0 H li ar cp el ss) (hz : H.size ≤ H1.size) (hk : ∀ z, Hs ≤ z → z < H.size → H1[z]? = H[z]?) : od_LB D d E0 Nd Hs a0 H1 li ar cp el ss := by
  obtain ⟨h1, h2, h3, h4, h6, h7, h8, h9⟩ := h
  refine ⟨h1.kept (hk _ h3 h1.lt) (fun z => hk _ (h4 z) (h1.ltr z)), h2, h3, h4, h6, h7, by omega, fun i S hi => ?_⟩
  obtain ⟨y, e1, e2⟩ := h9 i S hi
  exact ⟨y, e1, hN.2 _ _ _ _ _ _ e2 (fun z hz _ => hz) (fun z hz hlt => hk z hz.1 hlt)⟩
/-- done: the list, with its holder -/
theorem od_LB.done {D : va_G} {d : Nat → ClassId} {E0 : Nat} {Nd : (Nat → Prop) → Heap → Nat → od_Sm → Prop} {Hs a0 ci : Nat} {H : Heap} {li ar cp : Nat} {el : Nat → Option Nat} {ss : List od_Sm} (hN : od_NdK D Nd) (h : od_LB D d E0 Nd Hs a0 H li ar cp el ss) (h5 : Hs ≤ a0) (ha : va_at D oc_cl (a0, .inr (ci, [.ref li])) H) : od_NL D d E0 (fun z => Hs ≤ z) H ci (fun y S => Nd (fun z => Hs ≤ z) H y S) a0 ss := by
  obtain ⟨h1, h2, h3, h4, h6, h7, h8, h9⟩ := h
  refine ⟨li, ar, cp, el, h5, h3, h4, ha, h1, fun i S hi => ?_⟩
  obtain ⟨y, e1, e2⟩ := h9 i S hi
  exact ⟨y, e1, hN.2 _ _ _ _ _ _ e2 (fun z hz _ => hz.1) (fun z hz hlt => rfl)⟩
theorem od_LB.nil {D : va_G} {d : Nat → ClassId} {E0 : Nat} {α : Type} {Nd : (Nat → Prop) → Heap → Nat → α → Prop} {Hs a0 : Nat} {H : Heap} {li : Nat} {mc : Int32} (h : va_at D oc_cl (li, .inr (4, [.int mc, .ref E0, .int 0])) H) (h1 : Hs ≤ li) (h3 : a0 ≠ li) (h4 : a0 < H.size) : od_LB D d E0 Nd Hs a0 H li E0 0 (fun _ => none) [] :=
  ⟨⟨⟨mc, h⟩, Nat.le_refl _, by omega, Or.inl ⟨rfl, rfl⟩⟩, by omega, h1, fun z => absurd rfl z, h3, fun z => absurd rfl z, h4, fun i S hi => by simp at hi⟩
section OPB
variable {p : Program} {l : Launch} {e : Env} {R : Room} {s : State} {m : MethodId} {args : Array Value} {below : List Frame} {meth : Method} {c : Code} {H : Heap} {locs : List Loc} {cells slots : Nat} {Q : State → Prop}
variable {cc : ByteArray} {pc nL len : Nat} {ls : Array Slot} {rest st0 : List Value} {s0 : State} {b0 : Addr} {D : va_G} {d : Nat → ClassId} {E0 mi : Nat} {A0 : Nat → Prop}
/-- a node is added -/
theorem od_addN {α : Type} {Nd : (Nat → Prop) → Heap → Nat → α → Prop} {Hs a0 li ar cp : Nat} {el : Nat → Option Nat} {ss : List α} {y : Nat} {S : α} {ig : Instr} (hN : od_NdK D Nd) (G : oc_G l s0 b0 D d) (hE : oc_E s0 E0) (hM0 : va_Mi "[Ljava/lang/Object;" mi s0) (hx : p.tables.exec = Jvm.exec) (hb : c.code = cc) (hml : c.maxLocals = nL) (hl : ls.size = nL) (hZ : oc_Z s0 s A0 H locs)
    (hI : oc_I p l e R s m args below meth c H locs cells slots (F0 m pc ls st0) rest yJ2_add [.ref li, .ref y]) (hM : oc_M yJ2_add 2 s) (h : od_LB D d E0 Nd Hs a0 H li ar cp el ss) (hss : ss.length < 500000) (hHs : s0.heap.size ≤ Hs) (hA : ∀ q, Hs ≤ q → A0 q) (hsz : Hs ≤ H.size)
    (hy : Nd (fun z => Hs ≤ z ∧ z ≠ li ∧ (ar ≠ E0 → z ≠ ar) ∧ z ≠ a0) H y S) (hdg : decode cc pc = .ok (ig, len))
    (hfr : 7 ≤ R.frames) (hlo : (rest.map fun v => v.category).sum + 124 ≤ R.locals) (hce : cells + 1 ≤ R.cells) (hsl : slots + (2 * ss.length + 12) ≤ R.slots)
    (kk : ∀ (H1 : Heap) (locs1 : List Loc) (k nn ar2 cp2 : Nat) (el2 : Nat → Option Nat), od_LB D d E0 Nd Hs a0 H1 li ar2 cp2 el2 (ss ++ [S]) → k ≤ 1 → nn + 4 * cp ≤ 4 * cp2 → H.size ≤ H1.size → (∀ q : Nat, q < H.size → q ≠ li → (q = ar → ar = E0) → H1[q]? = H[q]?) → va_S A0 s.heap H1 locs1 → W p l e R s m args below meth c H1 locs1 (cells + k) (slots + nn) Q (F0 m (pc + len) ls (.int 1 :: rest))) :
    W p l e R s m args below meth c H locs cells slots Q (F0 m pc ls st0) := by
  obtain ⟨h1, h2, h3, h4, h6, h7, h8, h9⟩ := h
  have hyo := (hN.1 _ _ _ _ hy)
  have hyr : y ≠ ar := fun z => by
    by_cases hae : ar = E0
    · have := hE.lt
      have := hyo.2.1
      omega
    · exact hyo.2.2.2.1 hae z
  refine od_add G hE hM0 hx hb hml hl hZ hI hM h1 (by omega) (hA _ h3) (fun z => hA _ (h4 z)) (fun q hq => hA q (by omega)) (fun i hi z hz => ?_) hyo.1 hyo.2.2.1 hyr hdg hfr hlo hce hsl (fun H1 locs1 k nn hp hz hk hS => ?_)
  · obtain ⟨z2, e1, e2⟩ := h9 i _ (List.getElem?_eq_getElem hi)
    cases Option.some.inj (hz.symm.trans e1)
    have hzo := hN.1 _ _ _ _ e2
    refine ⟨hzo.1, hzo.2.2.1, fun w => ?_⟩
    by_cases hae : ar = E0
    · have := hE.lt
      have := hzo.2.1
      omega
    · exact hzo.2.2.2.1 hae w
  · obtain ⟨-, ar2, cp2, el2, g1, g2, g3, g4, g5, g6, g7⟩ := hp
    have hfresh : ∀ z, z < H.size → (ar ≠ E0 → z ≠ ar) → ar2 ≠ E0 → z ≠ ar2 := by
      intro z hz1 hz2 hz3 hz4
      rcases g4 with g4 | g4
      · exact hz2 g4.2 (by rw [hz4, g4.1])
      · omega
    have hfr2 : ∀ z, (Hs ≤ z ∧ z ≠ li ∧ (ar ≠ E0 → z ≠ ar) ∧ z ≠ a0) → z < H.size → H1[z]? = H[z]? := fun z hz1 hz2 => hk z hz2 hz1.2.1 (fun w => Classical.byContradiction fun w2 => hz1.2.2.1 w2 w)
    refine kk H1 locs1 k nn ar2 cp2 el2 ⟨by simpa using g1, ?_, h3, fun z => ?_, h6, fun z => hfresh a0 h8 h7 z, by omega, fun i S2 hi => ?_⟩ g5 g6 hz hk hS
    · simp only [List.length_append, List.length_singleton]
      rcases g7 with g7 | g7 <;> omega
    · rcases g4 with g4 | g4
      · rw [g4.1]; exact h4 g4.2
      · omega
    · have hmono : ∀ z, (Hs ≤ z ∧ z ≠ li ∧ (ar ≠ E0 → z ≠ ar) ∧ z ≠ a0) → z < H.size → (Hs ≤ z ∧ z ≠ li ∧ (ar2 ≠ E0 → z ≠ ar2) ∧ z ≠ a0) := fun z hz1 hz2 => ⟨hz1.1, hz1.2.1, fun w => hfresh z hz2 hz1.2.2.1 w, hz1.2.2.2⟩
      rcases Nat.lt_or_ge i ss.length with hlt | hge
      · rw [List.getElem?_append_left hlt] at hi
        obtain ⟨z, e1, e2⟩ := h9 i S2 hi
        exact ⟨z, (g2 i hlt).trans e1, hN.2 _ _ _ _ _ _ e2 hmono hfr2⟩
      · rw [List.getElem?_append_right hge] at hi
        have hi0 : i - ss.length = 0 := by
          rcases Nat.eq_zero_or_pos (i - ss.length) with w | w
          · exact w
          · rw [List.getElem?_eq_none (by simp; omega)] at hi; cases hi
        rw [hi0] at hi
        cases hi
        exact ⟨y, by rw [show i = ss.length by omega]; exact g3, hN.2 _ _ _ _ _ _ hy hmono hfr2⟩
end OPB
/-- it returns a node; the reader stands at j -/
def od_PP (D : va_G) (r tx N : Nat) (T T6 : Nat → Int32) (b dd k i : Nat) (H : Heap) (A : Nat → Prop) (Nd : (Nat → Prop) → Heap → Nat → od_Sm → Prop) (RS : Nat → Nat → od_Sm → Prop) (ck cn : Nat) (X : Nat → Prop) : Option Value → Heap → Nat → Nat → Prop := fun v H1 k1 n1 => ∃ (j a : Nat) (S : od_Sm), v = some (.ref a) ∧ i < j ∧ j ≤ N ∧ va_P D oc_cl (od_rW r tx N (nI j) (nI b) (nI dd)) H1 ∧ va_D A (od_rW r tx N (nI j) (nI b) (nI dd)) ∧ od_BH T T6 N j dd k ∧ Nd (fun z => Array.size H ≤ z) H1 a S ∧ RS i j S ∧ k1 + ck ≤ 20 * (j - i) ∧ n1 + cn ≤ 300 * (j - i) ∧ X j
/-- something is wrong; the reader stands at p -/
def od_QQ (s0 : State) (D : va_G) (r tx N : Nat) (T T6 : Nat → Int32) (b i : Nat) (H : Heap) (A : Nat → Prop) (ck cn : Nat) : Nat → Heap → Nat → Nat → Prop := fun a H1 k1 n1 => ∃ (p : Nat) (de : Int32), i ≤ p ∧ p ≤ N ∧ Array.size H ≤ a ∧ oc_Ex s0 RX5 H1 a ∧ va_P D oc_cl (od_rW r tx N (nI p) (nI b) de) H1 ∧ va_D A (od_rW r tx N (nI p) (nI b) de) ∧ od_ER T T6 N p ∧ k1 ≤ 20 * (p - i) + ck ∧ n1 ≤ 300 * (p - i) + cn
/-- the contract of factor, term, rule -/
def od_Kf (l : Launch) (s0 : State) (D : va_G) (d : Nat → ClassId) (r tx N : Nat) (T T6 : Nat → Int32) (b dd k : Nat) (y : MethodName) (FR LO cc cs : Nat) (Nd : (Nat → Prop) → Heap → Nat → od_Sm → Prop) (RS : Nat → Nat → od_Sm → Prop) (ck cn : Nat) (X : Nat → Prop) : Prop := ∀ (H : Heap) (i : Nat), od_AH T T6 i dd k → i ≤ N → va_P D oc_cl (od_rW r tx N (nI i) (nI b) (nI dd)) H → va_at D oc_cl (tx, .inl (d 2, 300, .inl T)) H →
  oc_C l s0 y (oc_rm FR LO (20 * (N - i) + cc) (300 * (N - i) + cs)) [.ref r] H (va_A (od_rW r tx N (nI i) (nI b) (nI dd)) (Array.size H)) (od_RT (od_PP D r tx N T T6 b dd k i H (va_A (od_rW r tx N (nI i) (nI b) (nI dd)) (Array.size H)) Nd RS ck cn X) (od_QQ s0 D r tx N T T6 b i H (va_A (od_rW r tx N (nI i) (nI b) (nI dd)) (Array.size H)) cc cs))
