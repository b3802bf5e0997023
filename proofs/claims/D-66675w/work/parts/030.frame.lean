/-! ===== own frame: contracts with either outcome, over the kit's W ===== -/
theorem oc_steps {tb : Tables} {e : Env} {g : Frame} {below : List Frame} {a b : State} (h : Steps tb e (g :: below) a b) : Steps tb e below a b := by
  obtain ⟨n, hn, w⟩ := h
  exact ⟨n, hn, fun k hk => Within.weaken (mid := [g]) (w k hk)⟩
/-- s stands over s0: its tables are warmer, the cells of s0 are as they were -/
def oc_Ok (s0 s : State) : Prop := s0.WarmedH s.vm ∧ s0.heap.size ≤ s.heap.size ∧ ∀ q : Nat, q < s0.heap.size → s.heap[q]? = s0.heap[q]?
/-- an invocation's end, of either kind -/
def oc_Q (A : Nat → Prop) (below : List Frame) (s : State) (Post : Outcome → Heap → Nat → Nat → Prop) : State → Prop := fun t =>
  ∃ (o : Outcome) (L : List Loc) (k n : Nat), t.status = .running ∧ Ended t below o ∧ s.WarmedH t.vm ∧ s.sameButNew ({ t with vm := s.vm } : State) L k n ∧ va_S A s.heap t.heap L ∧ Post o t.heap k n
/-- the contract of the method y, called with As in the heap H0 -/
def oc_C (l : Launch) (s0 : State) (y : MethodName) (rm : Room) (As : List Value) (H0 : Heap) (A : Nat → Prop) (Post : Outcome → Heap → Nat → Nat → Prop) : Prop :=
  ∀ (p : Program) (e : Env) (s : State) (m : MethodId) (below : List Frame) (meth : Method) (c : Code),
    p.tables.exec = Jvm.exec → oc_Ok s0 s → s.methodNamed? y = some m → s.vm.method? m = some meth → meth.code = some c → meth.locks = false → s.heap = H0 →
    W p l e rm s m As.toArray below meth c H0 [] 0 0 (oc_Q A below s Post) (entryFrame m As.toArray c.maxLocals)
/-- the heap stays, the answer is v -/
def oc_R (v : Option Value) (H : Heap) : Outcome → Heap → Nat → Nat → Prop := fun o H1 k n => o = .returned v ∧ H1 = H ∧ k = 0 ∧ n = 0
def oc_N : Nat → Prop := fun _ => False
section OCF
variable {p : Program} {l : Launch} {e : Env} {R : Room} {s : State} {m : MethodId} {args : Array Value} {below : List Frame} {meth : Method} {c : Code} {H : Heap} {locs : List Loc} {cells slots : Nat} {Q : State → Prop}
/-- an exception is on its way in the frame g -/
def oc_X (p : Program) (l : Launch) (e : Env) (R : Room) (s : State) (m : MethodId) (args : Array Value) (below : List Frame) (meth : Method) (c : Code) (H : Heap) (locs : List Loc) (cells slots : Nat) (Q : State → Prop) (g : JFrame) (a : Addr) : Prop :=
  ∀ T : State, T.heap = H → Stand p l e R s m args below meth c T locs cells slots → ∃ t, Steps p.tables e below ((T.setTop g).pushFrame (.throwing a)) t ∧ Q t
theorem oc_mono {Q2 : State → Prop} {g : JFrame} (h : ∀ t, Q t → Q2 t) (w : W p l e R s m args below meth c H locs cells slots Q g) : W p l e R s m args below meth c H locs cells slots Q2 g := by
  intro T hT X
  obtain ⟨t, a, b⟩ := w T hT X
  exact ⟨t, a, h t b⟩
variable {A : Nat → Prop} {Post : Outcome → Heap → Nat → Nat → Prop}
theorem oc_end {A : Nat → Prop} {Post : Outcome → Heap → Nat → Nat → Prop} {t : State} (h : MQ below (fun _ _ o t => (H.size = t.heap.size ∧ t.heap = H) ∧ Post o H cells slots) args s cells slots A t) (hS : va_S A s.heap H locs) : oc_Q A below s Post t := by
  obtain ⟨o, h1, h2, ⟨⟨-, h4⟩, h5⟩, L, ⟨-, h6, h7⟩, h8⟩ := h
  exact ⟨o, L, cells, slots, h1, h2, h6, h7, ⟨by rw [h4]; exact hS.1, fun q a b => by rw [h4]; exact hS.2.1 q a b, h8⟩, by rw [h4]; exact h5⟩
variable {cc : ByteArray} {pc : Nat} {ls : Array Slot} {rest : List Value}
theorem oc_iret {v : Int32} (hx : p.tables.exec = Jvm.exec) (hb : c.code = cc) (hr : meth.sig.returnType = some .int) (hlocks : meth.locks = false) (hS : va_S A s.heap H locs) (hdg : decode cc pc = .ok (.ireturn, 1)) (hq : Post (.returned (some (.int v))) H cells slots) :
    W p l e R s m args below meth c H locs cells slots (oc_Q A below s Post) (F0 m pc ls [.int v]) :=
  oc_mono (fun t h => oc_end h hS) (W.iret (free := A) hx hb hr (fun t ht _ => ⟨⟨by rw [ht], ht⟩, hq⟩) hS.2.2 hdg)
theorem oc_zret {v : Int32} {ty : FieldType} (hx : p.tables.exec = Jvm.exec) (hb : c.code = cc) (hr : meth.sig.returnType = some ty) (hlocks : meth.locks = false) (hS : va_S A s.heap H locs) (hdg : decode cc pc = .ok (.ireturn, 1)) (hn : narrow ty (.int v) = .int v) (hq : Post (.returned (some (.int v))) H cells slots) :
    W p l e R s m args below meth c H locs cells slots (oc_Q A below s Post) (F0 m pc ls [.int v]) :=
  oc_mono (fun t h => oc_end h hS) (W.zret (free := A) hx hb hr hn (fun t ht _ => ⟨⟨by rw [ht], ht⟩, hq⟩) hS.2.2 hdg)
theorem oc_lret {v : Int64} (hx : p.tables.exec = Jvm.exec) (hb : c.code = cc) (hr : meth.sig.returnType = some .long) (hlocks : meth.locks = false) (hS : va_S A s.heap H locs) (hdg : decode cc pc = .ok (.lreturn, 1)) (hq : Post (.returned (some (.long v))) H cells slots) :
    W p l e R s m args below meth c H locs cells slots (oc_Q A below s Post) (F0 m pc ls [.long v]) :=
  oc_mono (fun t h => oc_end h hS) (W.lret (free := A) hx hb hr (fun t ht _ => ⟨⟨by rw [ht], ht⟩, hq⟩) hS.2.2 hdg)
theorem oc_vret (hx : p.tables.exec = Jvm.exec) (hb : c.code = cc) (hr : meth.sig.returnType = none) (hlocks : meth.locks = false) (hS : va_S A s.heap H locs) (hdg : decode cc pc = .ok (.return_, 1)) (hq : Post (.returned none) H cells slots) :
    W p l e R s m args below meth c H locs cells slots (oc_Q A below s Post) (F0 m pc ls []) :=
  oc_mono (fun t h => oc_end h hS) (W.vret (free := A) hx hb hr (fun t ht _ => ⟨⟨by rw [ht], ht⟩, hq⟩) hS.2.2 hdg)
theorem oc_aret {v : Value} {rt : FieldType} (hx : p.tables.exec = Jvm.exec) (hb : c.code = cc) (hr : meth.sig.returnType = some rt) (hrt : (∃ n, rt = .object n) ∨ ∃ t, rt = .array t) (hv : v = .null ∨ ∃ a, v = .ref a) (hlocks : meth.locks = false) (hS : va_S A s.heap H locs) (hdg : decode cc pc = .ok (.areturn, 1)) (hq : Post (.returned (some v)) H cells slots) :
    W p l e R s m args below meth c H locs cells slots (oc_Q A below s Post) (F0 m pc ls [v]) :=
  oc_mono (fun t h => oc_end h hS) (W.aret (free := A) hx hb hr hrt hv (fun t ht _ => ⟨⟨by rw [ht], ht⟩, hq⟩) hS.2.2 hdg)
/-- the exception leaves the method -/
theorem oc_xout {a : Addr} (hlocks : meth.locks = false) (hout : ∀ x ∈ c.exceptionTable.toList, covers x pc = false) (hS : va_S A s.heap H locs) (hq : Post (.threw a) H cells slots) :
    oc_X p l e R s m args below meth c H locs cells slots (oc_Q A below s Post) (F0 m pc ls rest) a := by
  intro T hT X
  obtain ⟨st, hrun, hend, hW, hsame⟩ := X.leaveThrown a (g := F0 m pc ls rest) rfl rfl rfl hout hlocks
  have hh : (T.setFrames (.throwing a :: below)).heap = H := hT
  exact ⟨_, st, .threw a, locs, cells, slots, hrun, hend, hW, hsame, by rw [hh]; exact hS, by rw [hh]; exact hq⟩
theorem oc_athrow {a : Addr} (hx : p.tables.exec = Jvm.exec) (hb : c.code = cc) (hdg : decode cc pc = .ok (.athrow, 1)) (k : oc_X p l e R s m args below meth c H locs cells slots Q (F0 m pc ls rest) a) :
    W p l e R s m args below meth c H locs cells slots Q (F0 m pc ls (.ref a :: rest)) := by
  intro T hT X
  obtain ⟨t, st, q⟩ := k T hT X
  refine ⟨t, ?_, q⟩
  subst hb
  jvm_step X.here [hx, hdg, athrow.wp_sem]
  exact st
end OCF
