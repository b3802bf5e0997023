/-! ===== rules as trees in the heap; what they say ===== -/
/-- what a rule says: by what its factors say, an answer, and the places that are asked -/
abbrev od_Sm : Type := (Nat → Bool) → Bool × List Nat
def od_leaf (q : Nat) : od_Sm := fun hv => (hv q, [q])
def od_all : List od_Sm → od_Sm
  | [], _ => (true, [])
  | S :: ss, hv => if (S hv).1 = true then ((od_all ss hv).1, (S hv).2 ++ (od_all ss hv).2) else (false, (S hv).2)
def od_any : List od_Sm → od_Sm
  | [], _ => (false, [])
  | S :: ss, hv => if (S hv).1 = true then (true, (S hv).2) else ((od_any ss hv).1, (S hv).2 ++ (od_any ss hv).2)
/-- what is told: k so far, t -/
def od_lg (b : Nat) (hv : Nat → Bool) : List Nat → Nat × (Nat → Int32) → Nat × (Nat → Int32)
  | [], z => z
  | q :: qs, z => od_lg b hv qs (z.1 + 1, upd z.2 z.1 (2 * (nI q - nI b) + oc_b (hv q)))
theorem od_lg_app (b : Nat) (hv : Nat → Bool) : ∀ (x y : List Nat) (z : Nat × (Nat → Int32)), od_lg b hv (x ++ y) z = od_lg b hv y (od_lg b hv x z)
  | [], _, _ => rfl
  | q :: x, y, z => od_lg_app b hv x y _
theorem od_lg_len (b : Nat) (hv : Nat → Bool) : ∀ (x : List Nat) (z : Nat × (Nat → Int32)), (od_lg b hv x z).1 = z.1 + x.length
  | [], _ => rfl
  | q :: x, z => by
    show (od_lg b hv x (z.1 + 1, _)).1 = _
    rw [od_lg_len b hv x]
    simp only [List.length_cons]
    omega
section ODT
variable (D : va_G) (d : Nat → ClassId) (E0 : Nat) (f : Nat → Int32) (b : Nat) (nm : Nat → Int32) (B : Nat → Prop) (H : Heap)
/-- a factor's object -/
def od_lf (a q : Nat) : Prop := B a ∧
  ((f q = 87 ∧ va_at D oc_cl (a, .inr (7, [.int (nI q - nI b)])) H) ∨
   (f q = 67 ∧ va_at D oc_cl (a, .inr (8, [.int (nI q - nI b), .int 10000])) H) ∨
   (f q = 72 ∧ va_at D oc_cl (a, .inr (8, [.int (nI q - nI b), .int 100])) H) ∨
   (f q = 83 ∧ va_at D oc_cl (a, .inr (8, [.int (nI q - nI b), .int 1])) H) ∨
   (f q = 86 ∧ va_at D oc_cl (a, .inr (9, [.int (nI q - nI b), .int (nm q)])) H) ∨
   (f q = 80 ∧ va_at D oc_cl (a, .inr (10, [.int (nI q - nI b), .int (nm q)])) H))
/-- a node with a list of nodes; ci: Any or All -/
def od_NL (ci : Nat) (Nd : Nat → od_Sm → Prop) (a : Nat) (ss : List od_Sm) : Prop := ∃ (li ar cp : Nat) (el : Nat → Option Nat), B a ∧ B li ∧ (ar ≠ E0 → B ar) ∧
  va_at D oc_cl (a, .inr (ci, [.ref li])) H ∧ od_L D d E0 H li ar ss.length cp el ∧ ∀ (i : Nat) (S : od_Sm), ss[i]? = some S → ∃ y : Nat, el i = some y ∧ Nd y S
/-- a term -/
def od_Tm (Nd : Nat → od_Sm → Prop) (a : Nat) (S : od_Sm) : Prop := ∃ ss : List od_Sm, od_NL D d E0 B H 6 Nd a ss ∧ S = od_all ss
/-- a rule -/
def od_Ru (Nd : Nat → od_Sm → Prop) (a : Nat) (S : od_Sm) : Prop := ∃ ss : List od_Sm, od_NL D d E0 B H 5 (od_Tm D d E0 B H Nd) a ss ∧ S = od_any ss
/-- a factor, with brackets as deep as e -/
def od_Fa : Nat → Nat → od_Sm → Prop
  | 0, a, S => ∃ q, od_lf D f b nm B H a q ∧ S = od_leaf q
  | e + 1, a, S => (∃ q, od_lf D f b nm B H a q ∧ S = od_leaf q) ∨ od_Ru D d E0 B H (od_Fa e) a S
end ODT
section ODT2
variable {D : va_G} {d : Nat → ClassId} {E0 : Nat} {f : Nat → Int32} {b : Nat} {nm : Nat → Int32} {B B2 : Nat → Prop} {H H1 : Heap}
theorem od_lf.kept {a q : Nat} (h : od_lf D f b nm B H a q) (hB : ∀ z, B z → B2 z) (hk : ∀ z, B z → H1[z]? = H[z]?) : od_lf D f b nm B2 H1 a q := by
  obtain ⟨h0, h⟩ := h
  have e := hk a h0
  refine ⟨hB a h0, ?_⟩
  rcases h with h | h | h | h | h | h
  · exact Or.inl ⟨h.1, h.2.kept e⟩
  · exact Or.inr (Or.inl ⟨h.1, h.2.kept e⟩)
  · exact Or.inr (Or.inr (Or.inl ⟨h.1, h.2.kept e⟩))
  · exact Or.inr (Or.inr (Or.inr (Or.inl ⟨h.1, h.2.kept e⟩)))
  · exact Or.inr (Or.inr (Or.inr (Or.inr (Or.inl ⟨h.1, h.2.kept e⟩))))
  · exact Or.inr (Or.inr (Or.inr (Or.inr (Or.inr ⟨h.1, h.2.kept e⟩))))
theorem od_NL.kept {ci a : Nat} {ss : List od_Sm} {Nd Nd2 : Nat → od_Sm → Prop} (h : od_NL D d E0 B H ci Nd a ss) (hB : ∀ z, B z → B2 z) (hk : ∀ z, B z → H1[z]? = H[z]?) (hN : ∀ y S, Nd y S → Nd2 y S) : od_NL D d E0 B2 H1 ci Nd2 a ss := by
  obtain ⟨li, ar, cp, el, h1, h2, h3, h4, h5, h6⟩ := h
  refine ⟨li, ar, cp, el, hB _ h1, hB _ h2, fun z => hB _ (h3 z), h4.kept (hk _ h1), h5.kept (hk _ h2) (fun z => hk _ (h3 z)), fun i S hi => ?_⟩
  obtain ⟨y, e1, e2⟩ := h6 i S hi
  exact ⟨y, e1, hN y S e2⟩
theorem od_Tm.kept {a : Nat} {S : od_Sm} {Nd Nd2 : Nat → od_Sm → Prop} (h : od_Tm D d E0 B H Nd a S) (hB : ∀ z, B z → B2 z) (hk : ∀ z, B z → H1[z]? = H[z]?) (hN : ∀ y S, Nd y S → Nd2 y S) : od_Tm D d E0 B2 H1 Nd2 a S := by
  obtain ⟨ss, h1, h2⟩ := h
  exact ⟨ss, h1.kept hB hk hN, h2⟩
theorem od_Ru.kept {a : Nat} {S : od_Sm} {Nd Nd2 : Nat → od_Sm → Prop} (h : od_Ru D d E0 B H Nd a S) (hB : ∀ z, B z → B2 z) (hk : ∀ z, B z → H1[z]? = H[z]?) (hN : ∀ y S, Nd y S → Nd2 y S) : od_Ru D d E0 B2 H1 Nd2 a S := by
  obtain ⟨ss, h1, h2⟩ := h
  exact ⟨ss, h1.kept hB hk (fun y S z => z.kept hB hk hN), h2⟩
theorem od_Fa.kept (hB : ∀ z, B z → B2 z) (hk : ∀ z, B z → H1[z]? = H[z]?) : ∀ (e a : Nat) (S : od_Sm), od_Fa D d E0 f b nm B H e a S → od_Fa D d E0 f b nm B2 H1 e a S := by
  intro e
  induction e with
  | zero => intro a S h; obtain ⟨q, h1, h2⟩ := h; exact ⟨q, h1.kept hB hk, h2⟩
  | succ e ih =>
    intro a S h
    rcases h with ⟨q, h1, h2⟩ | h
    · exact Or.inl ⟨q, h1.kept hB hk, h2⟩
    · exact Or.inr (h.kept hB hk (ih))
theorem od_Fa.up : ∀ (e a : Nat) (S : od_Sm), od_Fa D d E0 f b nm B H e a S → od_Fa D d E0 f b nm B H (e + 1) a S := by
  intro e
  induction e with
  | zero => intro a S h; exact Or.inl h
  | succ e ih =>
    intro a S h
    rcases h with h | h
    · exact Or.inl h
    · exact Or.inr (h.kept (fun _ z => z) (fun _ _ => rfl) ih)
theorem od_Fa.isB {e a : Nat} {S : od_Sm} (h : od_Fa D d E0 f b nm B H e a S) : B a := by
  cases e with
  | zero => obtain ⟨q, h1, -⟩ := h; exact h1.1
  | succ e =>
    rcases h with ⟨q, h1, -⟩ | ⟨ss, ⟨li, ar, cp, el, h1, -⟩, -⟩
    · exact h1.1
    · exact h1
theorem od_lf.ob {a q : Nat} (h : od_lf D f b nm B H a q) : oc_Ob D H a := by
  obtain ⟨-, h⟩ := h
  rcases h with h | h | h | h | h | h <;> exact ⟨_, _, h.2⟩
theorem od_Fa.ob {e a : Nat} {S : od_Sm} (h : od_Fa D d E0 f b nm B H e a S) : oc_Ob D H a := by
  cases e with
  | zero => obtain ⟨q, h1, -⟩ := h; exact h1.ob
  | succ e =>
    rcases h with ⟨q, h1, -⟩ | ⟨ss, ⟨li, ar, cp, el, -, -, -, h1, -⟩, -⟩
    · exact h1.ob
    · exact ⟨_, _, h1⟩
end ODT2
/-- what the factors say, by the good: u its cells, N parts -/
def od_hv (f : Nat → Int32) (nm : Nat → Int32) (I : Nat → Int32) (F : Nat → Nat → Int32) (L : Nat → Int64) (N : Nat) (cd : Int32) (pr : Int64) (hv : Nat → Bool) : Prop := ∀ q,
  (f q = 87 → hv q = decide (nI N = 0)) ∧ (f q = 67 → hv q = !decide (pr * (I 16).toInt64 < oc_mt I F L cd 10000 N * (I 17).toInt64)) ∧ (f q = 72 → hv q = !decide (pr * (I 16).toInt64 < oc_mt I F L cd 100 N * (I 17).toInt64)) ∧ (f q = 83 → hv q = !decide (pr * (I 16).toInt64 < oc_mt I F L cd 1 N * (I 17).toInt64)) ∧
  (f q = 86 → hv q = (!decide (pr ≤ 0) && !decide (pr * (nm q).toInt64 < oc_mf I F L N * 100))) ∧ (f q = 80 → hv q = decide ((I 11 >>> (nm q &&& 31)) &&& 1 = 1))
/-- the classes that an object of Node may be of, and what 'holds' is there -/
def od_faces : List (String × MethodName × Nat) := [(RX9, yX8_holds, 2), (RX10, yX8_holds, 2), (RX11, yX8_holds, 2), (RX12, yX8_holds, 2), (RX6, yX6_holds, 3), (RX7, yX7_holds, 3)]
abbrev od_x : MethodName := ⟨"OriginRules$Node", "holds", "(LOriginRules$Good;)Z"⟩
section ODF
variable {l : Launch} {s0 : State} {b0 : Addr} {D : va_G} {d : Nat → ClassId} {s : State} {args : Array Value}
theorem od_fF (G : oc_G l s0 b0 D d) (hok : oc_Ok s0 s) {C : String} {y : MethodName} {n : Nat} (h : (C, y, n) ∈ od_faces) : va_Fw C od_x y s ∧ (Cond.selects C od_x y).before args s = true ∧ (Cond.instanceMethod y).before args s = true ∧ oc_M y n s ∧ n ≤ 3 ∧ Cond.castable C "OriginRules$Node" ∈ lw_tbl := by
  have hts : ∀ w ∈ lw_all, w.before args s = true := oc_hts G hok
  simp only [od_faces, List.mem_cons, Prod.mk.injEq, List.not_mem_nil, or_false] at h
  rcases h with ⟨rfl, rfl, rfl⟩ | ⟨rfl, rfl, rfl⟩ | ⟨rfl, rfl, rfl⟩ | ⟨rfl, rfl, rfl⟩ | ⟨rfl, rfl, rfl⟩ | ⟨rfl, rfl, rfl⟩
  · exact ⟨va_Fw.moved ⟨by decide, by decide⟩ hok.1.alike (va_Fw.of (G.2.1 _ q642) (G.2.1 _ q641) (G.2.1 _ q669) (G.2.1 _ q715) (G.2.1 _ q713)), hts _ q714, hts _ q668, oc_M.of (by decide +kernel) (hts _ q670), by decide, q713⟩
  · exact ⟨va_Fw.moved ⟨by decide, by decide⟩ hok.1.alike (va_Fw.of (G.2.1 _ q642) (G.2.1 _ q641) (G.2.1 _ q669) (G.2.1 _ q667) (G.2.1 _ q665)), hts _ q666, hts _ q668, oc_M.of (by decide +kernel) (hts _ q670), by decide, q665⟩
  · exact ⟨va_Fw.moved ⟨by decide, by decide⟩ hok.1.alike (va_Fw.of (G.2.1 _ q642) (G.2.1 _ q641) (G.2.1 _ q669) (G.2.1 _ q712) (G.2.1 _ q710)), hts _ q711, hts _ q668, oc_M.of (by decide +kernel) (hts _ q670), by decide, q710⟩
  · exact ⟨va_Fw.moved ⟨by decide, by decide⟩ hok.1.alike (va_Fw.of (G.2.1 _ q642) (G.2.1 _ q641) (G.2.1 _ q669) (G.2.1 _ q709) (G.2.1 _ q707)), hts _ q708, hts _ q668, oc_M.of (by decide +kernel) (hts _ q670), by decide, q707⟩
  · exact ⟨va_Fw.moved ⟨by decide, by decide⟩ hok.1.alike (va_Fw.of (G.2.1 _ q642) (G.2.1 _ q641) (G.2.1 _ q658) (G.2.1 _ q656) (G.2.1 _ q654)), hts _ q655, hts _ q657, oc_M.of (by decide +kernel) (hts _ q659), by decide, q654⟩
  · exact ⟨va_Fw.moved ⟨by decide, by decide⟩ hok.1.alike (va_Fw.of (G.2.1 _ q642) (G.2.1 _ q641) (G.2.1 _ q647) (G.2.1 _ q645) (G.2.1 _ q643)), hts _ q644, hts _ q646, oc_M.of (by decide +kernel) (hts _ q648), by decide, q643⟩
end ODF
/-- the good's two cells that an asking changes -/
abbrev od_tW (d : Nat → ClassId) (u : Nat → Nat) (I : Nat → Int32) (cd : Int32) (pr : Int64) (k : Nat) (t : Nat → Int32) : va_W := [(u 3, .inr (2, [.ref (u 6), .int (I 11), .int (I 12), .int (I 14), .int (I 15), .int (I 16), .int (I 17), .ref (u 4), .int cd, .long pr, .ref (u 5), .int (nI k)])), (u 5, .inl (d 0, 300, .inl t))]
/-- what else an asking reads, away from those two cells -/
def od_Cx (D : va_G) (d : Nat → ClassId) (E0 : Nat) (u : Nat → Nat) (F : Nat → Nat → Int32) (L : Nat → Int64) (N : Nat) (H : Heap) : Prop := u 4 ≠ u 3 ∧ u 4 ≠ u 5 ∧ va_at D oc_cl (u 4, .inl (d 1, 100, .inl (F 13))) H ∧
  ∃ (ar cp : Nat) (el : Nat → Option Nat), u 6 ≠ u 3 ∧ u 6 ≠ u 5 ∧ (ar ≠ E0 → ar ≠ u 3 ∧ ar ≠ u 5) ∧ od_L D d E0 H (u 6) ar N cp el ∧ ∀ j, j < N → ∃ y, el j = some y ∧ y ≠ u 3 ∧ y ≠ u 5 ∧ va_at D oc_cl (y, .inr (12, [.int (F 8 j), .int (F 9 j), .long (L j)])) H
theorem od_Cx.kept {D : va_G} {d : Nat → ClassId} {E0 : Nat} {u : Nat → Nat} {F : Nat → Nat → Int32} {L : Nat → Int64} {N : Nat} {H H1 : Heap} (h : od_Cx D d E0 u F L N H) (hk : ∀ q, q < H.size → q ≠ u 3 → q ≠ u 5 → H1[q]? = H[q]?) : od_Cx D d E0 u F L N H1 := by
  obtain ⟨h1, h2, h3, ar, cp, el, h4, h5, h6, h7, h8⟩ := h
  refine ⟨h1, h2, h3.kept (hk _ h3.lt h1 h2), ar, cp, el, h4, h5, h6, h7.kept (hk _ h7.lt h4 h5) (fun z => hk _ (h7.ltr z) (h6 z).1 (h6 z).2), fun j hj => ?_⟩
  obtain ⟨y, e1, e2, e3, e4⟩ := h8 j hj
  exact ⟨y, e1, e2, e3, e4.kept (hk _ e4.lt e2 e3)⟩
/-- what 'holds' of a node answers and tells -/
def od_PH (D : va_G) (d : Nat → ClassId) (u : Nat → Nat) (I : Nat → Int32) (cd : Int32) (pr : Int64) (b : Nat) (hv : Nat → Bool) (S : od_Sm) (k : Nat) (t : Nat → Int32) (A : Nat → Prop) : Option Value → Heap → Nat → Nat → Prop := fun v H1 k1 n1 => v = some (.int (oc_b (S hv).1)) ∧ k1 = 0 ∧ n1 = 0 ∧ va_P D oc_cl (od_tW d u I cd pr (od_lg b hv (S hv).2 (k, t)).1 (od_lg b hv (S hv).2 (k, t)).2) H1 ∧ va_D A (od_tW d u I cd pr (od_lg b hv (S hv).2 (k, t)).1 (od_lg b hv (S hv).2 (k, t)).2)
/-- the node at a may be asked, in the room FR, LO -/
def od_Hc (l : Launch) (s0 : State) (D : va_G) (d : Nat → ClassId) (u : Nat → Nat) (I : Nat → Int32) (cd : Int32) (pr : Int64) (b : Nat) (hv : Nat → Bool) (FR LO : Nat) (H : Heap) (a : Nat) (S : od_Sm) (k : Nat) (t : Nat → Int32) : Prop := ∃ (C : String) (y : MethodName) (n fr lo : Nat), (C, y, n) ∈ od_faces ∧ fr ≤ FR ∧ lo ≤ LO ∧ (∀ s, oc_Ok s0 s → oc_recv C a s H) ∧
  oc_C l s0 y (oc_rm fr lo 0 0) [.ref a, .ref (u 3)] H (va_A (od_tW d u I cd pr k t) (Array.size H)) (oc_Pr (od_PH D d u I cd pr b hv S k t (va_A (od_tW d u I cd pr k t) (Array.size H))))
