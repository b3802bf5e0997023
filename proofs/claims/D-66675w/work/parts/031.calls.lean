/-! ===== calls ===== -/
section OCC
variable {p : Program} {l : Launch} {e : Env} {R : Room} {s : State} {m : MethodId} {args : Array Value} {below : List Frame} {meth : Method} {c : Code} {H : Heap} {locs : List Loc} {cells slots : Nat} {Q : State → Prop}
/-- the instruction comes to the invocation of y with As, the stack then being rest -/
def oc_I (p : Program) (l : Launch) (e : Env) (R : Room) (s : State) (m : MethodId) (args : Array Value) (below : List Frame) (meth : Method) (c : Code) (H : Heap) (locs : List Loc) (cells slots : Nat) (g : JFrame) (rest : List Value) (y : MethodName) (As : List Value) : Prop :=
  ∀ T : State, T.heap = H → Stand p l e R s m args below meth c T locs cells slots → ∃ (vm₁ : Vm) (mk : MethodId), Stand p l e R s m args below meth c (T.setVm vm₁) locs cells slots ∧ s.methodNamed? y = some mk ∧
    ∀ target, Steps p.tables e below (doInvoke e ((T.setVm vm₁).setTop { g with stack := rest }) [] mk As.toArray).1 target → Steps p.tables e below (T.setTop g) target
/-- y's code, as far as a caller must know it -/
def oc_M (y : MethodName) (maxL : Nat) (s : State) : Prop := plainFor y = true ∧ ∀ mk, s.methodNamed? y = some mk → ∃ (mth : Method) (ck : Code), s.vm.method? mk = some mth ∧ mth.code = some ck ∧ ck.maxLocals = maxL ∧ mth.locks = false
theorem oc_M.of {y : MethodName} {b : ByteArray} {L : Nat} {r : Option FieldType} (hp : plainFor y = true) (h : (Cond.code y b L r).before args s = true) : oc_M y L s := by
  refine ⟨hp, fun mk hn => ?_⟩
  obtain ⟨mth, ck, h1, h2, -, h4, -, h6, -, -⟩ := Cond.code_spec hn h
  exact ⟨mth, ck, h1, h2, h4, h6⟩
theorem oc_M.ofW {y : MethodName} {b : ByteArray} {L : Nat} {r : Option FieldType} {hh : List (Nat × Nat × Nat × Nat)} (hp : plainFor y = true) (h : (Cond.codeWith y b L r hh).before args s = true) : oc_M y L s := by
  refine ⟨hp, fun mk hn => ?_⟩
  obtain ⟨mk', mth, ck, h0, h1, h2, -, h4, -, -, h6, -⟩ := Cond.codeWith_spec h
  cases hn.symm.trans h0
  exact ⟨mth, ck, h1, h2, h4, h6⟩
/-- where a method stands, relative to s0 -/
def oc_Z (s0 s : State) (A : Nat → Prop) (H : Heap) (locs : List Loc) : Prop := oc_Ok s0 s ∧ va_S A s.heap H locs ∧ ∀ q, A q → s0.heap.size ≤ q
theorem oc_Z.ok {s0 : State} {A : Nat → Prop} (h : oc_Z s0 s A H locs) {U : State} (hU : U.heap = H) (hW : s.WarmedH U.vm) : oc_Ok s0 U := by
  obtain ⟨⟨h1, h2, h3⟩, ⟨h4, h5, -⟩, h6⟩ := h
  refine ⟨State.WarmedH.trans h1 hW, by rw [hU]; exact Nat.le_trans h2 h4, fun q hq => ?_⟩
  rw [hU, h5 q (Nat.lt_of_lt_of_le hq h2) (fun hA => absurd (h6 q hA) (Nat.not_le.mpr hq))]
  exact h3 q hq
theorem oc_go {T : State} (X : Stand p l e R s m args below meth c T locs cells slots) (hx : p.tables.exec = Jvm.exec) {s0 : State} {y : MethodName} {rm : Room} {As : List Value} {A : Nat → Prop} {Post : Outcome → Heap → Nat → Nat → Prop} (hC : oc_C l s0 y rm As T.heap A Post) (hok : oc_Ok s0 T)
    {g : JFrame} (hg : g.method = m) (hsize : g.locals.size = c.maxLocals) {ig : Instr} {len : Nat} (hdg : decode c.code g.pc = .ok (ig, len)) {mk : MethodId} {mth : Method} {ck : Code} (hp : plainFor y = true) (hn : T.methodNamed? y = some mk) (hm : T.vm.method? mk = some mth) (hc : mth.code = some ck) (hl : mth.locks = false)
    (hfr : rm.frames + 1 ≤ R.frames) (hlo : 2 * g.monitorRoom + (g.stack.map fun v => v.category).sum + (ck.maxLocals + 11) + rm.locals ≤ R.locals) (hce : cells + rm.cells ≤ R.cells) (hsl : slots + rm.slots ≤ R.slots)
    (hret : ∀ (v : Option Value) (T' : State) (L : List Loc) (k n : Nat), Stand p l e R s m args below meth c T' (locs ++ L) (cells + k) (slots + n) → va_S A T.heap T'.heap L → Post (.returned v) T'.heap k n → ∃ t, Steps p.tables e below (T'.setTop { g with pc := g.pc + len, stack := v.toList ++ g.stack }) t ∧ Q t)
    (hthr : ∀ (a : Addr) (T' : State) (L : List Loc) (k n : Nat), Stand p l e R s m args below meth c T' (locs ++ L) (cells + k) (slots + n) → va_S A T.heap T'.heap L → Post (.threw a) T'.heap k n → ∃ t, Steps p.tables e below ((T'.setTop g).pushFrame (.throwing a)) t ∧ Q t) :
    ∃ t, Steps p.tables e below (doInvoke e (T.setTop g) [] mk As.toArray).1 t ∧ Q t := by
  obtain ⟨Y, hin⟩ := X.into hg hsize hdg As.toArray (R' := rm) hm hc hl (State.plainMethod.of_named hp hn hm) hfr hlo hce hsl
  have w := hC p e (T.calling g mk As.toArray) mk (.java g :: below) mth ck hx hok hn hm hc hl rfl
  obtain ⟨t, st, o, L, k, n, hrun, hend, hW, hsame, hS, hpost⟩ := w ((T.setTop g).pushFrame (.java (entryFrame mk As.toArray ck.maxLocals))) rfl Y
  have st' := oc_steps st
  rw [← hin []] at st'
  have hSt : va_S A T.heap t.heap L := hS
  cases o with
  | returned v =>
    obtain ⟨T', X', -, -, ht⟩ := X.outOf hg hdg hend hW hsame
    have hh : t.heap = T'.heap := by rw [ht]; rfl
    rw [hh] at hSt hpost
    obtain ⟨t2, a1, b1⟩ := hret v T' L k n X' hSt hpost
    rw [← ht] at a1
    exact ⟨t2, st'.trans a1, b1⟩
  | threw a =>
    obtain ⟨T', X', -, -, ht⟩ := X.outOfThrown hg hend hW hsame
    have hh : t.heap = T'.heap := by rw [ht]; rfl
    rw [hh] at hSt hpost
    obtain ⟨t2, a1, b1⟩ := hthr a T' L k n X' hSt hpost
    rw [← ht] at a1
    exact ⟨t2, st'.trans a1, b1⟩
variable {cc : ByteArray} {pc nL len : Nat} {ls : Array Slot} {rest st0 : List Value}
theorem oc_call {s0 : State} {A0 A1 : Nat → Prop} {y : MethodName} {rm : Room} {As : List Value} {Post : Outcome → Heap → Nat → Nat → Prop} {maxL : Nat} {ig : Instr} (hx : p.tables.exec = Jvm.exec) (hb : c.code = cc) (hml : c.maxLocals = nL) (hl : ls.size = nL) (hZ : oc_Z s0 s A0 H locs)
    (hI : oc_I p l e R s m args below meth c H locs cells slots (F0 m pc ls st0) rest y As) (hM : oc_M y maxL s) (hC : oc_C l s0 y rm As H A1 Post) (hA : ∀ q, A1 q → A0 q) (hdg : decode cc pc = .ok (ig, len))
    (hfr : rm.frames + 1 ≤ R.frames) (hlo : (rest.map fun v => v.category).sum + (maxL + 11) + rm.locals ≤ R.locals) (hce : cells + rm.cells ≤ R.cells) (hsl : slots + rm.slots ≤ R.slots)
    (kk : ∀ (v : Option Value) (H1 : Heap) (locs1 : List Loc) (k n : Nat), Post (.returned v) H1 k n → H.size ≤ H1.size → (∀ q : Nat, q < H.size → ¬ A1 q → H1[q]? = H[q]?) → va_S A0 s.heap H1 locs1 → W p l e R s m args below meth c H1 locs1 (cells + k) (slots + n) Q (F0 m (pc + len) ls (v.toList ++ rest)))
    (kt : ∀ (a : Addr) (H1 : Heap) (locs1 : List Loc) (k n : Nat), Post (.threw a) H1 k n → H.size ≤ H1.size → (∀ q : Nat, q < H.size → ¬ A1 q → H1[q]? = H[q]?) → va_S A0 s.heap H1 locs1 → oc_X p l e R s m args below meth c H1 locs1 (cells + k) (slots + n) Q (F0 m pc ls rest) a) :
    W p l e R s m args below meth c H locs cells slots Q (F0 m pc ls st0) := by
  intro T hT X
  obtain ⟨vm₁, mk, X₁, hn, st⟩ := hI T hT X
  obtain ⟨hp, hM2⟩ := hM
  obtain ⟨mth, ck, q1, q2, q3, q4⟩ := hM2 mk hn
  have hS := hZ.2.1
  have key : ∀ {T' : State} {L : List Loc}, va_S A1 H T'.heap L → va_S A0 s.heap T'.heap (locs ++ L) := by
    intro T' L hS1
    refine ⟨Nat.le_trans hS.1 hS1.1, fun q a b => ?_, fun q hq => ?_⟩
    · rw [hS1.2.1 q (Nat.lt_of_lt_of_le a hS.1) (fun z => b (hA q z))]
      exact hS.2.1 q a b
    · rcases List.mem_append.mp hq with h | h
      · exact hS.2.2 q h
      · exact hA _ (hS1.2.2 q h)
  obtain ⟨t, a1, b1⟩ := oc_go (Q := Q) X₁ hx (g := { (F0 m pc ls st0) with stack := rest }) (len := len) (ig := ig) (by rw [show (T.setVm vm₁).heap = H from hT]; exact hC) (hZ.ok (U := T.setVm vm₁) hT X₁.warmed) rfl (by show ls.size = _; rw [hl, hml]) (by show decode c.code pc = _; rw [hb]; exact hdg) hp (X₁.named hn)
    (by rw [X₁.warmed.alike.method?]; exact q1) q2 q4 hfr (by show 2 * 0 + (rest.map fun v => v.category).sum + (ck.maxLocals + 11) + rm.locals ≤ R.locals; rw [q3]; omega) hce hsl
    (fun v T' L k n X' hS1 hp1 => by
      have hS1 : va_S A1 H T'.heap L := by rw [show (T.setVm vm₁).heap = H from hT] at hS1; exact hS1
      exact kk v T'.heap (locs ++ L) k n hp1 hS1.1 hS1.2.1 (key hS1) T' rfl X')
    (fun a T' L k n X' hS1 hp1 => by
      have hS1 : va_S A1 H T'.heap L := by rw [show (T.setVm vm₁).heap = H from hT] at hS1; exact hS1
      exact kt a T'.heap (locs ++ L) k n hp1 hS1.1 hS1.2.1 (key hS1) T' rfl X')
  exact ⟨t, st t a1, b1⟩
/-- a call that only reads -/
theorem oc_callR {s0 : State} {A0 : Nat → Prop} {y : MethodName} {rm : Room} {As : List Value} {v : Option Value} {maxL : Nat} {ig : Instr} (hx : p.tables.exec = Jvm.exec) (hb : c.code = cc) (hml : c.maxLocals = nL) (hl : ls.size = nL) (hZ : oc_Z s0 s A0 H locs)
    (hI : oc_I p l e R s m args below meth c H locs cells slots (F0 m pc ls st0) rest y As) (hM : oc_M y maxL s) (hC : oc_C l s0 y rm As H oc_N (oc_R v H)) (hdg : decode cc pc = .ok (ig, len))
    (hfr : rm.frames + 1 ≤ R.frames) (hlo : (rest.map fun v => v.category).sum + (maxL + 11) + rm.locals ≤ R.locals) (hce : cells + rm.cells ≤ R.cells) (hsl : slots + rm.slots ≤ R.slots)
    (kk : W p l e R s m args below meth c H locs cells slots Q (F0 m (pc + len) ls (v.toList ++ rest))) :
    W p l e R s m args below meth c H locs cells slots Q (F0 m pc ls st0) := by
  intro T hT X
  obtain ⟨vm₁, mk, X₁, hn, st⟩ := hI T hT X
  obtain ⟨hp, hM2⟩ := hM
  obtain ⟨mth, ck, q1, q2, q3, q4⟩ := hM2 mk hn
  obtain ⟨t, a1, b1⟩ := oc_go (Q := Q) X₁ hx (g := { (F0 m pc ls st0) with stack := rest }) (len := len) (ig := ig) (by rw [show (T.setVm vm₁).heap = H from hT]; exact hC) (hZ.ok (U := T.setVm vm₁) hT X₁.warmed) rfl (by show ls.size = _; rw [hl, hml]) (by show decode c.code pc = _; rw [hb]; exact hdg) hp (X₁.named hn)
    (by rw [X₁.warmed.alike.method?]; exact q1) q2 q4 hfr (by show 2 * 0 + (rest.map fun v => v.category).sum + (ck.maxLocals + 11) + rm.locals ≤ R.locals; rw [q3]; omega) hce hsl
    (fun v2 T' L k n X' hS1 hp1 => by
      obtain ⟨e1, e2, e3, e4⟩ := hp1
      cases e1
      subst e3; subst e4
      have hL : L = [] := List.eq_nil_iff_forall_not_mem.mpr (fun q hq => hS1.2.2 q hq)
      subst hL
      rw [List.append_nil] at X'
      exact kk T' (e2.trans rfl) X')
    (fun a T' L k n X' hS1 hp1 => by cases hp1.1)
  exact ⟨t, st t a1, b1⟩
/-! the ways to call -/
theorem oc_iS {own : String} {index : Nat} {y : MethodName} {bytes : ByteArray} {maxL : Nat} {ret : Option FieldType} {As : List Value} (hx : p.tables.exec = Jvm.exec) (hb : c.code = cc) (hown : s.vm.findClass own = some m.cls) (hlink : (Cond.methodLink own index y).before args s = true) (hstat : (Cond.static y).before args s = true) (hini : (Cond.initialized y.cls).before args s = true) (hcode : (Cond.code y bytes maxL ret).before args s = true)
    (hd : y.cls ≠ "java/lang/invoke/MethodHandle" ∧ y.cls ≠ "java/lang/invoke/VarHandle" ∧ (parseMethodDescriptor y.desc).map (fun d => d.parameters.length) = some As.length) (hdg : decode cc pc = .ok (.invokestatic index, 3)) (hst : st0 = As.reverse ++ rest) :
    oc_I p l e R s m args below meth c H locs cells slots (F0 m pc ls st0) rest y As := by
  intro T hT X
  obtain ⟨mk, hnamed⟩ := Cond.code_named hcode
  obtain ⟨mth, ck, h1, -, -, -, -, -, -, hsig⟩ := Cond.code_spec hnamed hcode
  have hstatic : mth.isStatic = true := Cond.static_spec hnamed h1 hstat
  obtain ⟨kP, hkP, -⟩ := className_of_methodNamed hnamed
  have hinitP : kP.init = .initialized := Cond.initialized_spec (findClass_of_methodNamed hnamed) hkP hini
  have hlen : As.length = mth.sig.parameters.length := by
    have h2 := hd.2.2
    rw [hsig] at h2
    exact (Option.some.inj h2).symm
  obtain ⟨vm₁, X₁, hstep⟩ := X.invokestatic hx hown hlink hnamed h1 hstatic hkP hinitP ⟨hd.1, hd.2.1⟩ (g := F0 m pc ls st0) rfl (argsL := As) (rest := rest) hlen hst (by show decode c.code pc = _; rw [hb]; exact hdg)
  exact ⟨vm₁, mk, X₁, hnamed, fun target h => hstep _ fun acts => by rw [doInvoke_state]; exact h⟩
theorem oc_iSN {own host : String} {index : Nat} {y : MethodName} {bytes : ByteArray} {maxL : Nat} {ret : Option FieldType} {As : List Value} (hx : p.tables.exec = Jvm.exec) (hb : c.code = cc) (hown : s.vm.findClass own = some m.cls) (hlink : (Cond.methodLinkNest own index y host).before args s = true) (hstat : (Cond.static y).before args s = true) (hini : (Cond.initialized y.cls).before args s = true) (hcode : (Cond.code y bytes maxL ret).before args s = true)
    (hd : y.cls ≠ "java/lang/invoke/MethodHandle" ∧ y.cls ≠ "java/lang/invoke/VarHandle" ∧ (parseMethodDescriptor y.desc).map (fun d => d.parameters.length) = some As.length) (hdg : decode cc pc = .ok (.invokestatic index, 3)) (hst : st0 = As.reverse ++ rest) :
    oc_I p l e R s m args below meth c H locs cells slots (F0 m pc ls st0) rest y As := by
  intro T hT X
  obtain ⟨mk, hnamed⟩ := Cond.code_named hcode
  obtain ⟨mth, ck, h1, -, -, -, -, -, -, hsig⟩ := Cond.code_spec hnamed hcode
  have hstatic : mth.isStatic = true := Cond.static_spec hnamed h1 hstat
  obtain ⟨kP, hkP, -⟩ := className_of_methodNamed hnamed
  have hinitP : kP.init = .initialized := Cond.initialized_spec (findClass_of_methodNamed hnamed) hkP hini
  have hlen : As.length = mth.sig.parameters.length := by
    have h2 := hd.2.2
    rw [hsig] at h2
    exact (Option.some.inj h2).symm
  obtain ⟨vm₁, X₁, hstep⟩ := X.invokestaticNest hx hown hlink hnamed h1 hstatic hkP hinitP ⟨hd.1, hd.2.1⟩ (g := F0 m pc ls st0) rfl (argsL := As) (rest := rest) hlen hst (by show decode c.code pc = _; rw [hb]; exact hdg)
  exact ⟨vm₁, mk, X₁, hnamed, fun target h => hstep _ fun acts => by rw [doInvoke_state]; exact h⟩
/-- the object at b is of the class C -/
def oc_recv (C : String) (b : Nat) (s : State) (H : Heap) : Prop := ∃ cell : Cell, H[b]? = some cell ∧ cell.vm.isStatics = false ∧ s.vm.findClass C = some cell.cls
/-- what is asked of the callee's descriptor, for a static code row or one with handlers -/
def oc_Sig (y : MethodName) (n : Nat) (s : State) : Prop := ∀ mk mth, s.methodNamed? y = some mk → s.vm.method? mk = some mth → mth.sig.parameters.length = n
theorem oc_Sig.of {y : MethodName} {b : ByteArray} {L n : Nat} {r : Option FieldType} (h : (Cond.code y b L r).before args s = true) (hd : (parseMethodDescriptor y.desc).map (fun d => d.parameters.length) = some n) : oc_Sig y n s := by
  intro mk mth hn hm
  obtain ⟨mth', ck, h1, -, -, -, -, -, -, hsig⟩ := Cond.code_spec hn h
  cases hm.symm.trans h1
  rw [hsig] at hd
  exact Option.some.inj hd
theorem oc_Sig.ofW {y : MethodName} {b : ByteArray} {L n : Nat} {r : Option FieldType} {hh : List (Nat × Nat × Nat × Nat)} (h : (Cond.codeWith y b L r hh).before args s = true) (hd : (parseMethodDescriptor y.desc).map (fun d => d.parameters.length) = some n) : oc_Sig y n s := by
  intro mk mth hn hm
  obtain ⟨mk', mth', ck, h0, h1, -, -, -, -, -, -, hsig⟩ := Cond.codeWith_spec h
  cases hn.symm.trans h0
  cases hm.symm.trans h1
  rw [hsig] at hd
  exact Option.some.inj hd
theorem oc_iV {own : String} {index b : Nat} {y : MethodName} {As : List Value} (hx : p.tables.exec = Jvm.exec) (hb : c.code = cc) (hown : s.vm.findClass own = some m.cls) (hlink : (Cond.methodLink own index y).before args s = true) (hinst : (Cond.instanceMethod y).before args s = true) (hsel : (Cond.selects y.cls y y).before args s = true) (hsig : oc_Sig y As.length s) (hrc : oc_recv y.cls b s H)
    (hd : y.cls ≠ "java/lang/invoke/MethodHandle" ∧ y.cls ≠ "java/lang/invoke/VarHandle") (hdg : decode cc pc = .ok (.invokevirtual index, 3)) (hst : st0 = As.reverse ++ .ref b :: rest) :
    oc_I p l e R s m args below meth c H locs cells slots (F0 m pc ls st0) rest y (.ref b :: As) := by
  intro T hT X
  obtain ⟨mk, mth, hnamed, h1, h2, h3⟩ := Cond.instanceMethod_spec hinst
  obtain ⟨cell, hcell, hobj, hcls⟩ := hrc
  obtain ⟨c2, r2, m2, q1, q2, q3, q4, kP, hkP, hkPi⟩ := Cond.selects_spec hsel
  cases hcls.symm.trans q1
  cases (State.methodFound?_of_named hnamed hd).symm.trans q2
  cases hnamed.symm.trans q3
  have hselP : selectMethod e.platform s.vm cell.cls mk = .method mk := by rw [Launch.admits_selectMethod X.admits]; exact q4
  obtain ⟨vm₁, X₁, hstep⟩ := X.invokevirtual hx hown hlink hnamed h1 h2 hkP hkPi hd (a := b) (cell := cell) (by rw [hT]; exact hcell)
    (fun z h => by rw [h] at hobj; cases hobj) hselP h1 h3 hkP hkPi (g := F0 m pc ls st0) rfl (argsL := As) (rest := rest) (hsig mk mth hnamed h1).symm hst (by show decode c.code pc = _; rw [hb]; exact hdg)
  exact ⟨vm₁, mk, X₁, hnamed, fun target h => hstep _ fun acts => by rw [doInvoke_state]; exact h⟩
theorem oc_iI {own : String} {index b : Nat} {y : MethodName} {bytes : ByteArray} {maxL : Nat} {As : List Value} (hx : p.tables.exec = Jvm.exec) (hb : c.code = cc) (hown : s.vm.findClass own = some m.cls) (hlink : (Cond.methodLink own index y).before args s = true) (hinst : (Cond.instanceMethod y).before args s = true) (hcode : (Cond.code y bytes maxL none).before args s = true)
    (hd : y.name = "<init>" ∧ y.cls ≠ "java/lang/invoke/MethodHandle" ∧ y.cls ≠ "java/lang/invoke/VarHandle" ∧ (parseMethodDescriptor y.desc).map (fun d => d.parameters.length) = some As.length) (hdg : decode cc pc = .ok (.invokespecial index, 3)) (hst : st0 = As.reverse ++ .ref b :: rest) :
    oc_I p l e R s m args below meth c H locs cells slots (F0 m pc ls st0) rest y (.ref b :: As) := by
  intro T hT X
  have hpl : e.platform.magicAccessors = ({} : Platform).magicAccessors := by rw [X.admits.platform]
  obtain ⟨mk, methM, cM, kP, vm₁, hnamed, hmethM, hcodeM, -, hlocalsM, -, hkP, -, hW₁, hstep₁⟩ := Steps.initColdArgs (e := e) X.here hx X.warmed hpl hown hd.1 ⟨hd.2.1, hd.2.2.1⟩ hlink hinst hcode (f := F0 m pc ls st0) rfl (argsL := As) (rest := rest) (a := b) (fun sig h => by
    have h2 := hd.2.2.2
    rw [h] at h2
    exact (Option.some.inj h2).symm) hst (by show decode c.code pc = _; rw [hb]; exact hdg)
  exact ⟨vm₁, mk, X.noted hW₁, hnamed, fun target h => hstep₁ _ fun acts => by rw [doInvoke_state]; exact h⟩
theorem oc_iIN {own host : String} {index b : Nat} {y : MethodName} {bytes : ByteArray} {maxL : Nat} {As : List Value} (hx : p.tables.exec = Jvm.exec) (hb : c.code = cc) (hown : s.vm.findClass own = some m.cls) (hlink : (Cond.methodLinkNest own index y host).before args s = true) (hinst : (Cond.instanceMethod y).before args s = true) (hcode : (Cond.code y bytes maxL none).before args s = true)
    (hd : y.name = "<init>" ∧ y.cls ≠ "java/lang/invoke/MethodHandle" ∧ y.cls ≠ "java/lang/invoke/VarHandle" ∧ (parseMethodDescriptor y.desc).map (fun d => d.parameters.length) = some As.length) (hdg : decode cc pc = .ok (.invokespecial index, 3)) (hst : st0 = As.reverse ++ .ref b :: rest) :
    oc_I p l e R s m args below meth c H locs cells slots (F0 m pc ls st0) rest y (.ref b :: As) := by
  intro T hT X
  have hpl : e.platform.magicAccessors = ({} : Platform).magicAccessors := by rw [X.admits.platform]
  obtain ⟨mk, methM, cM, kP, vm₁, hnamed, hmethM, hcodeM, -, hlocalsM, -, hkP, -, hW₁, hstep₁⟩ := Steps.initColdArgsNest (e := e) X.here hx X.warmed hpl hown hd.1 ⟨hd.2.1, hd.2.2.1⟩ hlink hinst hcode (f := F0 m pc ls st0) rfl (argsL := As) (rest := rest) (a := b) (fun sig h => by
    have h2 := hd.2.2.2
    rw [h] at h2
    exact (Option.some.inj h2).symm) hst (by show decode c.code pc = _; rw [hb]; exact hdg)
  exact ⟨vm₁, mk, X.noted hW₁, hnamed, fun target h => hstep₁ _ fun acts => by rw [doInvoke_state]; exact h⟩
end OCC
