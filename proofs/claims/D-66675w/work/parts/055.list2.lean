/-! ===== a list as one predicate: od_L; what its methods do to it ===== -/
/-- the list at a has n elements, el; its array is ar (the common empty one, or its own of the length cp) -/
def od_L (D : va_G) (d : Nat → ClassId) (E0 : Nat) (H : Heap) (a ar n cp : Nat) (el : Nat → Option Nat) : Prop :=
  (∃ mc : Int32, va_at D oc_cl (a, .inr (4, [.int mc, .ref ar, .int (nI n)])) H) ∧ n ≤ cp ∧ cp < 1000000 ∧ ((ar = E0 ∧ cp = 0) ∨ (0 < cp ∧ a ≠ ar ∧ ar ≠ E0 ∧ va_at D oc_cl (ar, .inl (d 4, cp, .inr (.inr (.inr (.inr el))))) H))
theorem od_L.kept {D : va_G} {d : Nat → ClassId} {E0 : Nat} {H H1 : Heap} {a ar n cp : Nat} {el : Nat → Option Nat} (h : od_L D d E0 H a ar n cp el) (ha : H1[a]? = H[a]?) (hr : ar ≠ E0 → H1[ar]? = H[ar]?) : od_L D d E0 H1 a ar n cp el := by
  obtain ⟨⟨mc, h1⟩, h2, h3, h4⟩ := h
  refine ⟨⟨mc, h1.kept ha⟩, h2, h3, ?_⟩
  rcases h4 with h4 | ⟨h4, h5, h6, h7⟩
  · exact Or.inl h4
  · exact Or.inr ⟨h4, h5, h6, h7.kept (hr h6)⟩
theorem od_L.lt {D : va_G} {d : Nat → ClassId} {E0 : Nat} {H : Heap} {a ar n cp : Nat} {el : Nat → Option Nat} (h : od_L D d E0 H a ar n cp el) : a < H.size := by
  obtain ⟨⟨mc, h1⟩, -⟩ := h
  exact h1.lt
theorem od_L.ltr {D : va_G} {d : Nat → ClassId} {E0 : Nat} {H : Heap} {a ar n cp : Nat} {el : Nat → Option Nat} (h : od_L D d E0 H a ar n cp el) (hr : ar ≠ E0) : ar < H.size := by
  obtain ⟨-, -, -, h4 | h4⟩ := h
  · exact absurd h4.1 hr
  · exact h4.2.2.2.lt
section ODL
variable {l : Launch} {s0 : State} {b0 : Addr} {D : va_G} {d : Nat → ClassId} {E0 : Nat} {H : Heap} {a ar n cp : Nat} {el : Nat → Option Nat}
theorem od_size (G : oc_G l s0 b0 D d) (h : od_L D d E0 H a ar n cp el) : oc_C l s0 yJ2_size (oc_rm 0 0 0 0) [.ref a] H oc_N (oc_R (some (.int (nI n))) H) := by
  obtain ⟨⟨mc, h1⟩, -⟩ := h
  exact kJ2_size G a mc ar (nI n) (oc_P1 h1)
theorem od_isEmpty (G : oc_G l s0 b0 D d) (h : od_L D d E0 H a ar n cp el) : oc_C l s0 yJ2_isEmpty (oc_rm 0 0 0 0) [.ref a] H oc_N (oc_R (some (.int (oc_b (decide (nI n = 0))))) H) := by
  obtain ⟨⟨mc, h1⟩, -⟩ := h
  exact kJ2_isEmpty G a mc ar (nI n) (oc_P1 h1)
theorem od_get (G : oc_G l s0 b0 D d) (h : od_L D d E0 H a ar n cp el) {k y : Nat} (hk : k < n) (hy : el k = some y) : oc_C l s0 yJ2_get (oc_rm 2 27 0 0) [.ref a, .int (nI k)] H oc_N (oc_R (some (.ref y)) H) := by
  obtain ⟨⟨mc, h1⟩, h2, h3, h4⟩ := h
  rcases h4 with h4 | h4
  · exact absurd hk (by omega)
  · exact kJ2_get G a mc ar n cp el k y hk h2 (by omega) hy (oc_Pc h1 (oc_P1 h4.2.2.2))
/-- the cells that a change of the list may touch -/
def od_lA (E0 a ar : Nat) (H : Heap) : Nat → Prop := fun q => q = a ∨ (q = ar ∧ ar ≠ E0) ∨ H.size ≤ q
theorem oc_Cw {y : MethodName} {rm : Room} {As : List Value} {A A2 : Nat → Prop} {Post : Outcome → Heap → Nat → Nat → Prop} (h : oc_C l s0 y rm As H A Post) (hA : ∀ q, A q → A2 q) : oc_C l s0 y rm As H A2 Post := by
  intro p e s m below meth c hx hok hn hm hc hl hh
  refine oc_mono (fun t ht => ?_) (h p e s m below meth c hx hok hn hm hc hl hh)
  obtain ⟨o, L, k, nn, h1, h2, h3, h4, ⟨h5, h6, h7⟩, h8⟩ := ht
  exact ⟨o, L, k, nn, h1, h2, h3, h4, ⟨h5, fun q a b => h6 q a (fun z => b (hA q z)), fun z hz => hA _ (h7 z hz)⟩, h8⟩
theorem oc_Cp {y : MethodName} {rm : Room} {As : List Value} {A : Nat → Prop} {Post Post2 : Outcome → Heap → Nat → Nat → Prop} (h : oc_C l s0 y rm As H A Post) (hp : ∀ o H1 k nn, Post o H1 k nn → Post2 o H1 k nn) : oc_C l s0 y rm As H A Post2 := by
  intro p e s m below meth c hx hok hn hm hc hl hh
  refine oc_mono (fun t ht => ?_) (h p e s m below meth c hx hok hn hm hc hl hh)
  obtain ⟨o, L, k, nn, h1, h2, h3, h4, h5, h8⟩ := ht
  exact ⟨o, L, k, nn, h1, h2, h3, h4, h5, hp _ _ _ _ h8⟩
theorem od_clear (G : oc_G l s0 b0 D d) (h : od_L D d E0 H a ar n cp el) (ha : s0.heap.size ≤ a) (hr : ar ≠ E0 → s0.heap.size ≤ ar) : oc_C l s0 yJ2_clear (oc_rm 0 0 0 0) [.ref a] H (od_lA E0 a ar H) (oc_Pr (fun v H1 k nn => v = none ∧ k = 0 ∧ nn = 0 ∧ ∃ el2, od_L D d E0 H1 a ar 0 cp el2)) := by
  obtain ⟨⟨mc, h1⟩, h2, h3, h4⟩ := h
  rcases h4 with h4 | ⟨h4, h5, h6, h7⟩
  · obtain ⟨e1, e2⟩ := h4
    subst e2
    have en : n = 0 := by omega
    subst en
    subst e1
    refine oc_Cp (oc_Cw (kJ2_clearA G a mc ar (oc_P1 h1) (oc_Dc (va_A.in (k := 0) rfl) oc_D0 (fun x hx => absurd hx List.not_mem_nil)) (fun x hx => by simp at hx; subst hx; exact ha)) (fun q hq => ?_)) (fun o H1 k nn hp => ?_)
    · rcases hq with ⟨k, e, hk⟩ | hq
      · have := List.mem_of_getElem? hk
        simp at this
        exact Or.inl this.1
      · exact Or.inr (Or.inr hq)
    · obtain ⟨v, e1, e2, e3, e4, hP, -⟩ := hp
      exact ⟨v, e1, e2, e3, e4, fun _ => none, ⟨mc + 1, hP 0 _ rfl⟩, Nat.le_refl _, h3, Or.inl ⟨rfl, rfl⟩⟩
  · refine oc_Cp (oc_Cw (kJ2_clearB G a mc ar n cp el h2 h3 (oc_Pc h1 (oc_P1 h7)) (oc_Dc (va_A.in (k := 0) rfl) (oc_Dc (va_A.in (k := 1) rfl) oc_D0 (fun x hx => absurd hx List.not_mem_nil)) (fun x hx => by simp at hx; subst hx; exact h5)) (fun x hx => by simp at hx; rcases hx with rfl | rfl; exact ha; exact hr h6)) (fun q hq => ?_)) (fun o H1 k nn hp => ?_)
    · rcases hq with ⟨k, e, hk⟩ | hq
      · have := List.mem_of_getElem? hk
        simp at this
        rcases this with ⟨e1, -⟩ | ⟨e1, -⟩
        · exact Or.inl e1
        · exact Or.inr (Or.inl ⟨e1, h6⟩)
      · exact Or.inr (Or.inr hq)
    · obtain ⟨v, e1, e2, e3, e4, x, hP, -⟩ := hp
      exact ⟨v, e1, e2, e3, e4, x, ⟨mc + 1, hP 0 _ rfl⟩, Nat.zero_le _, h3, Or.inr ⟨h4, h5, h6, hP 1 _ rfl⟩⟩
/-- what add leaves: x is behind the n elements; k cells, nn slots; the slots that the list ever took stay under four times its length -/
def od_PA (D : va_G) (d : Nat → ClassId) (E0 : Nat) (H : Heap) (a ar n cp : Nat) (el : Nat → Option Nat) (x : Nat) : Option Value → Heap → Nat → Nat → Prop := fun v H1 k nn => v = some (.int 1) ∧ ∃ (ar2 cp2 : Nat) (el2 : Nat → Option Nat), od_L D d E0 H1 a ar2 (n + 1) cp2 el2 ∧ (∀ i, i < n → el2 i = el i) ∧ el2 n = some x ∧ (ar2 = ar ∧ ar ≠ E0 ∨ H.size ≤ ar2) ∧ k ≤ 1 ∧ nn + 4 * cp ≤ 4 * cp2 ∧ (cp2 = cp ∨ cp2 ≤ 2 * n + 12)
end ODL
theorem od_nlc {cp : Nat} (h : 0 < cp) : oc_nl cp + 4 * cp ≤ 4 * oc_nl cp ∧ oc_nl cp ≤ 2 * cp + 12 ∧ cp + 1 ≤ oc_nl cp := by
  unfold oc_nl
  split <;> omega
theorem od_fresh {A : Nat → Prop} {ws w1 : va_W} {sz q : Nat} {e : va_E} (hD : va_D (va_A ws sz) w1) (i : Nat) (hi : w1[i]? = some (q, e)) : (∃ x ∈ ws, x.1 = q) ∨ sz ≤ q := by
  rcases hD.2 i _ hi with ⟨k, e2, hk⟩ | h
  · exact Or.inl ⟨_, List.mem_of_getElem? hk, rfl⟩
  · exact Or.inr h
section ODA
variable {p : Program} {l : Launch} {e : Env} {R : Room} {s : State} {m : MethodId} {args : Array Value} {below : List Frame} {meth : Method} {c : Code} {H : Heap} {locs : List Loc} {cells slots : Nat} {Q : State → Prop}
variable {cc : ByteArray} {pc nL len : Nat} {ls : Array Slot} {rest st0 : List Value} {s0 : State} {b0 : Addr} {D : va_G} {d : Nat → ClassId} {E0 mi : Nat} {a ar n cp x : Nat} {el : Nat → Option Nat} {A0 : Nat → Prop}
set_option maxHeartbeats 1000000 in
/-- a call of add -/
theorem od_add {ig : Instr} (G : oc_G l s0 b0 D d) (hE : oc_E s0 E0) (hM0 : va_Mi "[Ljava/lang/Object;" mi s0) (hx : p.tables.exec = Jvm.exec) (hb : c.code = cc) (hml : c.maxLocals = nL) (hl : ls.size = nL) (hZ : oc_Z s0 s A0 H locs)
    (hI : oc_I p l e R s m args below meth c H locs cells slots (F0 m pc ls st0) rest yJ2_add [.ref a, .ref x]) (hM : oc_M yJ2_add 2 s) (hL : od_L D d E0 H a ar n cp el) (hn9 : n < 600000) (hAa : A0 a) (hAr : ar ≠ E0 → A0 ar) (hAf : ∀ q, H.size ≤ q → A0 q)
    (hob : ∀ i, i < n → ∀ y, el i = some y → oc_Ob D H y ∧ y ≠ a ∧ y ≠ ar) (hxo : oc_Ob D H x) (hxa : x ≠ a) (hxr : x ≠ ar) (hdg : decode cc pc = .ok (ig, len))
    (hfr : 7 ≤ R.frames) (hlo : (rest.map fun v => v.category).sum + 124 ≤ R.locals) (hce : cells + 1 ≤ R.cells) (hsl : slots + (2 * n + 12) ≤ R.slots)
    (kk : ∀ (H1 : Heap) (locs1 : List Loc) (k nn : Nat), od_PA D d E0 H a ar n cp el x (some (.int 1)) H1 k nn → H.size ≤ H1.size → (∀ q : Nat, q < H.size → q ≠ a → (q = ar → ar = E0) → H1[q]? = H[q]?) → va_S A0 s.heap H1 locs1 → W p l e R s m args below meth c H1 locs1 (cells + k) (slots + nn) Q (F0 m (pc + len) ls (.int 1 :: rest))) :
    W p l e R s m args below meth c H locs cells slots Q (F0 m pc ls st0) := by
  obtain ⟨⟨mc, h1⟩, h2, h3, h4⟩ := hL
  have hNa := hZ.2.2 a hAa
  rcases h4 with h4 | ⟨h4, h5, h6, h7⟩
  · obtain ⟨e1, e2⟩ := h4
    subst e2
    have en : n = 0 := by omega
    subst en
    subst e1
    have hEa : ar ≠ a := fun z => by rw [z] at hE; exact absurd hE.lt (Nat.not_lt.mpr hNa)
    refine oc_callP (rm := oc_rm 4 56 1 10) hx hb hml hl hZ hI hM (kJ2_addA G a mc ar x (oc_P1 h1) (oc_Dc (va_A.in (k := 0) rfl) oc_D0 (fun x hx => absurd hx List.not_mem_nil)) (fun x hx => by simp at hx; subst hx; exact hNa) hE hxo hxa) (fun q hq => ?_) hdg (by dsimp only [oc_rm]; omega) (by dsimp only [oc_rm]; omega) (by dsimp only [oc_rm]; omega) (by dsimp only [oc_rm]; omega) (fun v H1 locs1 k nn hp hz hk hS => ?_)
    · rcases hq with ⟨k, e, hk⟩ | hq
      · have := List.mem_of_getElem? hk
        simp at this
        rw [this.1]; exact hAa
      · exact hAf q hq
    · obtain ⟨q, cp2, el2, rfl, e3, e4, e5, e6, hP, hD⟩ := hp
      subst e5
      have hf : H.size ≤ q := by
        rcases od_fresh (A := A0) hD 1 rfl with ⟨z, hz1, hz2⟩ | hf
        · simp at hz1
          subst hz1
          exact absurd (hD.1 0 1 _ _ rfl rfl hz2) (by decide)
        · exact hf
      have hqa : a ≠ q := fun z => absurd (hD.1 0 1 _ _ rfl rfl z) (by decide)
      have hqE : q ≠ ar := fun z => by
        have h9 := hE.lt
        have h10 := Nat.le_trans hZ.1.2.1 hZ.2.1.1
        omega
      refine kk H1 locs1 k nn ⟨rfl, q, 10, el2, ⟨⟨mc + 1, hP 0 _ rfl⟩, by omega, by omega, Or.inr ⟨by omega, hqa, hqE, hP 1 _ rfl⟩⟩, fun i hi => absurd hi (by omega), e6, Or.inr hf, by omega, by omega, Or.inr (by omega)⟩ hz (fun z h8 h9 h10 => hk z h8 (fun h11 => ?_)) hS
      rcases h11 with ⟨k, e, hk⟩ | hq
      · have := List.mem_of_getElem? hk
        simp at this
        exact h9 this.1
      · exact absurd h8 (Nat.not_lt.mpr hq)
  · have hNr := hZ.2.2 ar (hAr h6)
    have hD0 : ∀ (w1 w2 : va_E), va_D (va_A ([(a, w1), (ar, w2)] : va_W) (Array.size H)) ([(a, w1), (ar, w2)] : va_W) := fun w1 w2 => oc_Dc (va_A.in (k := 0) rfl) (oc_Dc (va_A.in (k := 1) rfl) oc_D0 (fun x hx => absurd hx List.not_mem_nil)) (fun x hx => by simp at hx; subst hx; exact h5)
    have hin : ∀ (w1 w2 : va_E) (q : Nat), va_A ([(a, w1), (ar, w2)] : va_W) (Array.size H) q → q = a ∨ q = ar ∨ H.size ≤ q := by
      intro w1 w2 q hq
      rcases hq with ⟨k, e, hk⟩ | hq
      · have := List.mem_of_getElem? hk
        simp at this
        rcases this with h | h
        · exact Or.inl h.1
        · exact Or.inr (Or.inl h.1)
      · exact Or.inr (Or.inr hq)
    have hA0 : ∀ (w1 w2 : va_E) (q : Nat), va_A ([(a, w1), (ar, w2)] : va_W) (Array.size H) q → A0 q := by
      intro w1 w2 q hq
      rcases hin w1 w2 q hq with h | h | h
      · rw [h]; exact hAa
      · rw [h]; exact hAr h6
      · exact hAf q h
    have hnA : ∀ (w1 w2 : va_E) (q : Nat), q < H.size → q ≠ a → (q = ar → ar = E0) → ¬ va_A ([(a, w1), (ar, w2)] : va_W) (Array.size H) q := by
      intro w1 w2 q h8 h9 h10 h11
      rcases hin w1 w2 q h11 with h | h | h
      · exact h9 h
      · exact h6 (h10 h)
      · exact absurd h8 (Nat.not_lt.mpr h)
    rcases Nat.lt_or_ge n cp with hlt | hge
    · refine oc_callP (rm := oc_rm 1 15 0 0) hx hb hml hl hZ hI hM (kJ2_addB G a mc ar n cp x el hlt h3 (oc_Pc h1 (oc_P1 h7)) (hD0 _ _) (fun x hx => by simp at hx; rcases hx with rfl | rfl; exact hNa; exact hNr) hxo hxa hxr) (hA0 _ _) hdg (by dsimp only [oc_rm]; omega) (by dsimp only [oc_rm]; omega) (by dsimp only [oc_rm]; omega) (by dsimp only [oc_rm]; omega) (fun v H1 locs1 k nn hp hz hk hS => ?_)
      obtain ⟨q, cp2, el2, rfl, e3, e4, ⟨e5, e6, e7⟩, e8, hP, hD⟩ := hp
      subst e5
      subst e6
      exact kk H1 locs1 k nn ⟨rfl, q, cp2, el2, ⟨⟨mc + 1, hP 0 _ rfl⟩, hlt, h3, Or.inr ⟨h4, h5, h6, hP 1 _ rfl⟩⟩, e7, e8, Or.inl ⟨rfl, h6⟩, by omega, by omega, Or.inl rfl⟩ hz (fun z h8 h9 h10 => hk z h8 (hnA _ _ z h8 h9 h10)) hS
    · have en : n = cp := by omega
      subst en
      have hc9 := od_nlc h4
      have hc8 := oc_nl_b h3
      refine oc_callP (rm := oc_rm 6 111 1 (oc_nl n)) hx hb hml hl hZ hI hM (kJ2_addC G a mc ar n mi x el h4 h3 hM0 (oc_Pc h1 (oc_P1 h7)) (hD0 _ _) (fun x hx => by simp at hx; rcases hx with rfl | rfl; exact hNa; exact hNr) (fun i hi y hy => ⟨(hob i hi y hy).1, fun z hz => by simp at hz; rcases hz with rfl | rfl; exact (hob i hi y hy).2.1; exact (hob i hi y hy).2.2⟩) hxo hxa hxr) (hA0 _ _) hdg (by dsimp only [oc_rm]; omega) (by dsimp only [oc_rm]; omega) (by dsimp only [oc_rm]; omega) (by dsimp only [oc_rm]; omega) (fun v H1 locs1 k nn hp hz hk hS => ?_)
      obtain ⟨q, cp2, el2, rfl, e3, e4, ⟨e5, e7⟩, e8, hP, hD⟩ := hp
      subst e5
      have hqa : a ≠ q := fun z => absurd (hD.1 0 1 _ _ rfl rfl z) (by decide)
      have hf : q = ar ∨ H.size ≤ q := by
        rcases od_fresh (A := A0) hD 1 rfl with ⟨z, hz1, hz2⟩ | hf
        · simp at hz1
          rcases hz1 with rfl | rfl
          · exact absurd hz2 hqa
          · exact Or.inl hz2.symm
        · exact Or.inr hf
      have hqE : q ≠ E0 := fun z => by
        have h9 := hE.lt
        have h10 := Nat.le_trans hZ.1.2.1 hZ.2.1.1
        rcases hf with h | h
        · exact h6 (h ▸ z)
        · omega
      by_cases hcl : n < 666666
      · exact kk H1 locs1 k nn ⟨rfl, q, oc_nl n, el2, ⟨⟨mc + 1, hP 0 _ rfl⟩, by omega, by unfold oc_nl; split <;> omega, Or.inr ⟨by omega, hqa, hqE, hP 1 _ rfl⟩⟩, e7, e8, hf.imp (fun z => ⟨z, h6⟩) id, by omega, by omega, Or.inr (by omega)⟩ hz (fun z h8 h9 h10 => hk z h8 (hnA _ _ z h8 h9 h10)) hS
      · exact absurd hcl (by omega)
end ODA
