/-! ===== OriginRulesModel: methods that change it ===== -/
/-- the model's own cells -/
def oc_hA (h : Nat → Nat) : Nat → Prop := fun q => ∃ k, k < 27 ∧ q = h k
def oc_Pm (D : va_G) (d : Nat → ClassId) (h : Nat → Nat) (Φ : Option Value → (Nat → Int32) → (Nat → Nat → Int32) → (Nat → Int64) → Prop) : Outcome → Heap → Nat → Nat → Prop := fun o H k n =>
  ∃ (v : Option Value) (I : Nat → Int32) (F : Nat → Nat → Int32) (L : Nat → Int64), o = .returned v ∧ va_P D oc_cl (oc_mW d h I F L) H ∧ k = 0 ∧ n = 0 ∧ Φ v I F L
/-- apartness looks at the addresses alone -/
theorem oc_Dcong {A : Nat → Prop} {w1 w2 : va_W} (h : va_D A w1) (e : w2.map Prod.fst = w1.map Prod.fst) : va_D A w2 := by
  have key : ∀ (k : Nat) (q : Nat × va_E), w2[k]? = some q → ∃ q0, w1[k]? = some q0 ∧ q0.1 = q.1 := by
    intro k q hk
    have h1 : (w2.map Prod.fst)[k]? = some q.1 := by rw [List.getElem?_map, hk]; rfl
    rw [e, List.getElem?_map] at h1
    cases h2 : w1[k]? with
    | none => rw [h2] at h1; cases h1
    | some q0 => rw [h2] at h1; exact ⟨q0, rfl, Option.some.inj h1⟩
  refine ⟨fun i j x y hi hj hxy => ?_, fun k q hk => ?_⟩
  · obtain ⟨x0, a1, a2⟩ := key i x hi
    obtain ⟨y0, b1, b2⟩ := key j y hj
    exact h.1 i j x0 y0 a1 b1 (a2.trans (hxy.trans b2.symm))
  · obtain ⟨q0, a1, a2⟩ := key k q hk
    rw [← a2]
    exact h.2 k q0 a1
theorem oc_mD {A : Nat → Prop} {d : Nat → ClassId} {h : Nat → Nat} {I I' : Nat → Int32} {F F' : Nat → Nat → Int32} {L L' : Nat → Int64} (hD : va_D A (oc_mW d h I F L)) : va_D A (oc_mW d h I' F' L') := oc_Dcong hD rfl
section OCM
variable {p : Program} {l : Launch} {e : Env} {R : Room} {s : State} {m : MethodId} {args : Array Value} {below : List Frame} {meth : Method} {c : Code} {H : Heap} {locs : List Loc} {cells slots : Nat} {Q : State → Prop}
variable {cc : ByteArray} {pc : Nat} {ls : Array Slot} {rest st0 : List Value} {D : va_G} {d : Nat → ClassId} {h : Nat → Nat}
theorem oc_callM {nL len : Nat} {s0 : State} {A0 : Nat → Prop} {y : MethodName} {rm : Room} {As : List Value} {Φ : Option Value → (Nat → Int32) → (Nat → Nat → Int32) → (Nat → Int64) → Prop} {maxL : Nat} {ig : Instr} (hx : p.tables.exec = Jvm.exec) (hb : c.code = cc) (hml : c.maxLocals = nL) (hl : ls.size = nL) (hZ : oc_Z s0 s A0 H locs)
    (hI : oc_I p l e R s m args below meth c H locs cells slots (F0 m pc ls st0) rest y As) (hM : oc_M y maxL s) (hC : oc_C l s0 y rm As H (oc_hA h) (oc_Pm D d h Φ)) (hA : ∀ q, oc_hA h q → A0 q) (hdg : decode cc pc = .ok (ig, len))
    (hfr : rm.frames + 1 ≤ R.frames) (hlo : (rest.map fun v => v.category).sum + (maxL + 11) + rm.locals ≤ R.locals) (hce : cells + rm.cells ≤ R.cells) (hsl : slots + rm.slots ≤ R.slots)
    (kk : ∀ (v : Option Value) (I : Nat → Int32) (F : Nat → Nat → Int32) (L : Nat → Int64) (H1 : Heap) (locs1 : List Loc), Φ v I F L → va_P D oc_cl (oc_mW d h I F L) H1 → H.size ≤ H1.size → (∀ q : Nat, q < H.size → ¬ oc_hA h q → H1[q]? = H[q]?) → va_S A0 s.heap H1 locs1 → W p l e R s m args below meth c H1 locs1 cells slots Q (F0 m (pc + len) ls (v.toList ++ rest))) :
    W p l e R s m args below meth c H locs cells slots Q (F0 m pc ls st0) := by
  refine oc_call hx hb hml hl hZ hI hM hC hA hdg hfr hlo hce hsl (fun v H1 locs1 k n hp hz hk hS => ?_) (fun a H1 locs1 k n hp => ?_)
  · obtain ⟨v2, I, F, L, e1, hP, e2, e3, sp⟩ := hp
    cases e1
    subst e2; subst e3
    exact kk v I F L H1 locs1 sp hP hz hk hS
  · obtain ⟨v2, I, F, L, e1, -⟩ := hp
    cases e1
end OCM
