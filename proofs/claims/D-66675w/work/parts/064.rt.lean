/-! ===== contracts with either end, by name; the reader's signs ===== -/
def od_RT (P : Option Value → Heap → Nat → Nat → Prop) (Q : Nat → Heap → Nat → Nat → Prop) : Outcome → Heap → Nat → Nat → Prop := fun o H k n => (∃ v, o = .returned v ∧ P v H k n) ∨ (∃ a : Nat, o = .threw a ∧ Q a H k n)
section ORT
variable {p : Program} {l : Launch} {e : Env} {R : Room} {s : State} {m : MethodId} {args : Array Value} {below : List Frame} {meth : Method} {c : Code} {H : Heap} {locs : List Loc} {cells slots : Nat} {Q : State → Prop}
variable {cc : ByteArray} {pc nL len : Nat} {ls : Array Slot} {rest st0 : List Value}
theorem oc_callRT {s0 : State} {A0 A1 : Nat → Prop} {y : MethodName} {rm : Room} {As : List Value} {P : Option Value → Heap → Nat → Nat → Prop} {Q2 : Nat → Heap → Nat → Nat → Prop} {maxL : Nat} {ig : Instr} (hx : p.tables.exec = Jvm.exec) (hb : c.code = cc) (hml : c.maxLocals = nL) (hl : ls.size = nL) (hZ : oc_Z s0 s A0 H locs)
    (hI : oc_I p l e R s m args below meth c H locs cells slots (F0 m pc ls st0) rest y As) (hM : oc_M y maxL s) (hC : oc_C l s0 y rm As H A1 (od_RT P Q2)) (hA : ∀ q, A1 q → A0 q) (hdg : decode cc pc = .ok (ig, len))
    (hfr : rm.frames + 1 ≤ R.frames) (hlo : (rest.map fun v => v.category).sum + (maxL + 11) + rm.locals ≤ R.locals) (hce : cells + rm.cells ≤ R.cells) (hsl : slots + rm.slots ≤ R.slots)
    (kk : ∀ (v : Option Value) (H1 : Heap) (locs1 : List Loc) (k n : Nat), P v H1 k n → H.size ≤ H1.size → (∀ q : Nat, q < H.size → ¬ A1 q → H1[q]? = H[q]?) → va_S A0 s.heap H1 locs1 → W p l e R s m args below meth c H1 locs1 (cells + k) (slots + n) Q (F0 m (pc + len) ls (v.toList ++ rest)))
    (kt : ∀ (a : Addr) (H1 : Heap) (locs1 : List Loc) (k n : Nat), Q2 a H1 k n → H.size ≤ H1.size → (∀ q : Nat, q < H.size → ¬ A1 q → H1[q]? = H[q]?) → va_S A0 s.heap H1 locs1 → oc_X p l e R s m args below meth c H1 locs1 (cells + k) (slots + n) Q (F0 m pc ls rest) a) :
    W p l e R s m args below meth c H locs cells slots Q (F0 m pc ls st0) :=
  oc_call hx hb hml hl hZ hI hM hC hA hdg hfr hlo hce hsl (fun v H1 locs1 k n hp h1 h2 h3 => by
      rcases hp with ⟨v', e1, hp⟩ | ⟨a, e1, -⟩
      · cases e1; exact kk v H1 locs1 k n hp h1 h2 h3
      · cases e1) (fun a H1 locs1 k n hp h1 h2 h3 => by
      rcases hp with ⟨v', e1, -⟩ | ⟨a, e1, hp⟩
      · cases e1
      · cases e1; exact kt a H1 locs1 k n hp h1 h2 h3)
end ORT
/-- the sign at i, or none -/
def od_lk (T : Nat → Int32) (N i : Nat) : Int32 := if i < N then T i else -1
theorem od_dg (x : Int32) : oc_in x.toInt64 48 57 = oc_dig x := by
  unfold oc_in oc_dig
  congr 2
  · apply decide_eq_decide.mpr
    rw [Int64.lt_iff_toInt_lt, Int32.lt_iff_toInt_lt, Int32.toInt_toInt64]
    exact Iff.rfl
  · apply decide_eq_decide.mpr
    rw [Int64.lt_iff_toInt_lt, Int32.lt_iff_toInt_lt, Int32.toInt_toInt64]
    exact Iff.rfl
theorem od_lkd {T : Nat → Int32} {N i : Nat} (h : oc_dig (od_lk T N i) = true) : i < N := by
  unfold od_lk at h
  split at h
  · assumption
  · exact absurd h (by decide)
theorem od_lki {T : Nat → Int32} {N i : Nat} {x : Int32} (h : od_lk T N i = x) (hx : ¬ x = -1) : i < N ∧ T i = x := by
  unfold od_lk at h
  split at h
  · exact ⟨by assumption, h⟩
  · exact absurd h.symm hx
/-- j digits stand from i on -/
def od_ds (T : Nat → Int32) (N i j : Nat) : Prop := ∀ k, k < j → oc_dig (od_lk T N (i + k)) = true
theorem od_ds0 {T : Nat → Int32} {N i : Nat} : od_ds T N i 0 := fun k h => absurd h (Nat.not_lt_zero k)
theorem od_ds1 {T : Nat → Int32} {N i j : Nat} (h : od_ds T N i j) (h1 : oc_dig (od_lk T N (i + j)) = true) : od_ds T N i (j + 1) := fun k hk => by
  by_cases z : k = j
  · rw [z]; exact h1
  · exact h k (by omega)
abbrev od_rW (r tx N : Nat) (i be de : Int32) : va_W := [(r, .inr (1, [.ref tx, .int (nI N), .int i, .int be, .int de]))]
