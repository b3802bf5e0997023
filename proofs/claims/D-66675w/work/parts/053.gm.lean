/-! ===== contracts over a small world; the frame rule's pieces ===== -/
/-- it returns, with P -/
def oc_Pr (P : Option Value → Heap → Nat → Nat → Prop) : Outcome → Heap → Nat → Nat → Prop := fun o H k n => ∃ v, o = .returned v ∧ P v H k n
theorem oc_N0 {s0 s : State} {ws : va_W} (hok : oc_Ok s0 s) (h : ∀ x ∈ ws, s0.heap.size ≤ x.1) : ∀ q, va_A ws (Array.size s.heap) q → s0.heap.size ≤ q := by
  intro q hq
  rcases hq with ⟨k, e, hk⟩ | hq
  · exact h _ (List.mem_of_getElem? hk)
  · exact Nat.le_trans hok.2.1 hq
theorem oc_mem {ws wc : va_W} (is : List Nat) (h : is.map (fun i => ws[i]?) = wc.map some) : ∀ x ∈ wc, ∃ k : Nat, ws[k]? = some x := by
  intro x hx
  have h1 : some x ∈ wc.map some := List.mem_map_of_mem hx
  rw [← h] at h1
  obtain ⟨i, -, hi⟩ := List.mem_map.mp h1
  exact ⟨i, hi⟩
theorem oc_N1 {s0 : State} {A : Nat → Prop} {ws wc : va_W} (hD : va_D A ws) (hN : ∀ q, A q → s0.heap.size ≤ q) (is : List Nat) (h : is.map (fun i => ws[i]?) = wc.map some) : ∀ x ∈ wc, s0.heap.size ≤ x.1 := by
  intro x hx
  obtain ⟨k, hk⟩ := oc_mem is h x hx
  exact hN _ (hD.2 k x hk)
theorem od_keep {D : va_G} {cl : List vw_C} {A : Nat → Prop} {ws : va_W} {H0 H : Heap} {locs : List Loc} (hP : va_P D cl ws H0) (hn : ∀ x ∈ ws, ¬ A x.1) (hS : va_S A H0 H locs) : va_P D cl ws H :=
  hP.kept (fun k q hk => hS.2.1 q.1 (hP k q hk).lt (hn q (List.mem_of_getElem? hk)))
theorem oc_nA {D : va_G} {cl : List vw_C} {ws wc : va_W} {H : Heap} (hP : va_P D cl ws H) (hd : ∀ x ∈ ws, ∀ y ∈ wc, x.1 ≠ y.1) : ∀ x ∈ ws, ¬ va_A wc (Array.size H) x.1 := by
  intro x hx hA
  rcases hA with ⟨k, e, hk⟩ | hA
  · exact hd x hx _ (List.mem_of_getElem? hk) rfl
  · obtain ⟨k, hk⟩ := List.mem_iff_getElem?.mp hx
    exact absurd (hP k x hk).lt (Nat.not_lt.mpr hA)
section OCP
variable {p : Program} {l : Launch} {e : Env} {R : Room} {s : State} {m : MethodId} {args : Array Value} {below : List Frame} {meth : Method} {c : Code} {H : Heap} {locs : List Loc} {cells slots : Nat} {Q : State → Prop}
variable {cc : ByteArray} {pc nL len : Nat} {ls : Array Slot} {rest st0 : List Value}
theorem oc_callP {s0 : State} {A0 A1 : Nat → Prop} {y : MethodName} {rm : Room} {As : List Value} {P : Option Value → Heap → Nat → Nat → Prop} {maxL : Nat} {ig : Instr} (hx : p.tables.exec = Jvm.exec) (hb : c.code = cc) (hml : c.maxLocals = nL) (hl : ls.size = nL) (hZ : oc_Z s0 s A0 H locs)
    (hI : oc_I p l e R s m args below meth c H locs cells slots (F0 m pc ls st0) rest y As) (hM : oc_M y maxL s) (hC : oc_C l s0 y rm As H A1 (oc_Pr P)) (hA : ∀ q, A1 q → A0 q) (hdg : decode cc pc = .ok (ig, len))
    (hfr : rm.frames + 1 ≤ R.frames) (hlo : (rest.map fun v => v.category).sum + (maxL + 11) + rm.locals ≤ R.locals) (hce : cells + rm.cells ≤ R.cells) (hsl : slots + rm.slots ≤ R.slots)
    (kk : ∀ (v : Option Value) (H1 : Heap) (locs1 : List Loc) (k n : Nat), P v H1 k n → H.size ≤ H1.size → (∀ q : Nat, q < H.size → ¬ A1 q → H1[q]? = H[q]?) → va_S A0 s.heap H1 locs1 → W p l e R s m args below meth c H1 locs1 (cells + k) (slots + n) Q (F0 m (pc + len) ls (v.toList ++ rest))) :
    W p l e R s m args below meth c H locs cells slots Q (F0 m pc ls st0) :=
  oc_call hx hb hml hl hZ hI hM hC hA hdg hfr hlo hce hsl (fun v H1 locs1 k n hp h1 h2 h3 => by obtain ⟨v', e1, hp⟩ := hp; cases e1; exact kk v H1 locs1 k n hp h1 h2 h3) (fun a H1 locs1 k n hp => by obtain ⟨v', e1, -⟩ := hp; cases e1)
end OCP
/-- nothing is answered, no cell is made -/
theorem oc_cpy0 {α : Type} (f g : Nat → α) (n k : Nat) (h : k < n) : va_cpy f g 0 0 n k = f k := by
  unfold va_cpy
  rw [if_pos ⟨Nat.zero_le _, by omega⟩]
  congr 1
  omega
theorem od_nn {k : Nat} (h : k < 2147483648) : ¬ nI k < 0 := fun z => by
  have := (oc_lt (x := nI k) (y := 0) (a := k) (b := 0) rfl rfl h (by decide)).mp z
  omega
theorem od_lt {a b : Nat} (h : a < b) (hb : b < 2147483648) : nI a < nI b := (oc_lt rfl rfl (by omega) hb).mpr h
theorem od_nlt {a b : Nat} (h : b ≤ a) (hb : a < 2147483648) : ¬ nI a < nI b := fun z => by
  have := (oc_lt (x := nI a) (y := nI b) rfl rfl hb (by omega)).mp z
  omega
