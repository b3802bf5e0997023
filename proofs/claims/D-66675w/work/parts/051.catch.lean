/-! ===== an exception is caught in the method itself; the table's class may be cold ===== -/
section OCK1
variable {e : Env} {s : State} {f : JFrame} {a : Addr}
/-- one row of the table that covers the place: its class is found (and noted); the object goes with it or the search goes on -/
theorem oc_fh {x : ExceptionTableEntry} {t : List ExceptionTableEntry} {c : ClassId} {cell : Cell} (hx : covers x f.pc = true) (h0 : x.catchType ≠ 0) (hl : s.vm.ClassLinks e.platform f.method.cls x.catchType c)
    (hcell : s.heap[a]? = some cell) (hobj : ∀ k, cell.vm ≠ .statics k) (hk : ∃ k, s.vm.classes[cell.cls]? = some k) (hc : ∃ k, s.vm.classes[c]? = some k) (Q : Handler → Pre) (E : CtlPost) (d : Bool) (acts : List Action) :
    wp (findHandler.go f a (x :: t)) Q E e d acts s ↔ if s.vm.assignable cell.cls c = true then Q (.found x.handlerPc) d acts (s.setVm (s.vm.noted f.method.cls x.catchType (.cls c))) else wp (findHandler.go f a t) Q E e d acts (s.setVm (s.vm.noted f.method.cls x.catchType (.cls c))) := by
  simp only [covers] at hx
  obtain ⟨r1, r2⟩ := (resolveClass_links e.toSetting hl).op (op := VmOp.resolveClass f.method.cls x.catchType) rfl
  have al : s.vm.Alike (s.vm.noted f.method.cls x.catchType (.cls c)) := (Vm.Alike.refl s.vm).noted _ _ _
  obtain ⟨_, ka⟩ := hk
  obtain ⟨_, kb⟩ := hc
  obtain ⟨_, ka', -⟩ := al.2.2 _ _ ka
  obtain ⟨_, kb', -⟩ := al.2.2 _ _ kb
  have as' : (s.vm.noted f.method.cls x.catchType (.cls c)).assignable cell.cls c = s.vm.assignable cell.cls c := al.assignable _ _
  cases hf : s.vm.assignable cell.cls c <;> rw [hf] at as' <;> simp [findHandler.go, hx, h0, r1, r2, hcell, hobj, ka', kb', as', VmOp.dirties, VmOp.acts]
/-- the search ends in a handler; the tables are vm' then -/
def oc_fd (e : Env) (s : State) (f : JFrame) (a : Addr) (pc : Nat) (vm' : Vm) : Prop := ∀ (Q : Handler → Pre) (E : CtlPost) (d : Bool) (acts : List Action), wp (findHandler f a) Q E e d acts s ↔ Q (.found pc) d acts (s.setVm vm')
theorem oc_sc {pc : Nat} {vm' : Vm} {r : List Frame} (h : oc_fd e s f a pc vm') : (stepThrowing e s a (.java f :: r)).Is ((s.setVm vm').setFrames (.java { f with pc := pc, stack := [.ref a] } :: r)) [] := by
  simp only [stepThrowing, searchFrame, vmDo]
  generalize hr : Sem.go _ e false [] s = res
  obtain ⟨as, rfl, ha⟩ := Sem.eq_ok_of hr (a := Handler.found pc) (s' := s.setVm vm') (acts' := []) (by simp [h _ _ _ _])
  exact ⟨rfl, ha⟩
theorem oc_sfv (u : State) (vm' : Vm) (F G : List Frame) : ((u.setFrames F).setVm vm').setFrames G = (u.setVm vm').setFrames G := by
  rw [show (u.setFrames F).setVm vm' = (u.setVm vm').setFrames F from rfl, State.setFrames_setFrames]
theorem oc_cgt {tb : Tables} {T target : State} {g : JFrame} {c : Code} {below : List Frame} (h : At T g.method c below) {pc : Nat} {vm' : Vm} (hf : oc_fd e ((T.setTop g).pushFrame (.throwing a)) g a pc vm')
    (hr : Steps tb e below ((T.setVm vm').setTop { g with pc := pc, stack := [.ref a] }) target) : Steps tb e below ((T.setTop g).pushFrame (.throwing a)) target := by
  obtain ⟨h1, h2⟩ := h.throwing a
  refine Steps.head h1 h2 ?_
  rw [stepThread_throwing (frames_entered h.top _), (oc_sc (s := (T.setTop g).pushFrame (.throwing a)) hf).1]
  obtain ⟨g₀, hg⟩ := Option.isSome_iff_exists.mp h.top
  obtain ⟨r, hr0⟩ := State.topJava?_eq_some.mp hg
  rw [State.setTop_of_frames _ (show (T.setVm vm').frames = .java g₀ :: r from hr0)] at hr
  rw [hr0, List.tail_cons, State.pushFrame, oc_sfv, State.setTop_of_frames _ hr0, oc_sfv]
  exact hr
end OCK1
section OCK2
variable {p : Program} {l : Launch} {e : Env} {R : Room} {s : State} {m : MethodId} {args : Array Value} {below : List Frame} {meth : Method} {c : Code} {H : Heap} {locs : List Loc} {cells slots : Nat} {Q : State → Prop}
variable {pc : Nat} {ls : Array Slot} {rest : List Value} {a : Addr} {own C n1 n2 : String} {hs : List (Nat × Nat × Nat × Nat)}
/-- caught by the first row -/
theorem oc_catch1 {st en hp ct : Nat} (htab : c.exceptionTable.toList = tableOf ((st, en, hp, ct) :: hs)) (hcov : st ≤ pc ∧ pc < en) (hct : ct ≠ 0) (hown : s.vm.findClass own = some m.cls) (hlink : (Cond.classLink own ct n1).before args s = true) (hcast : (Cond.castable C n1).before args s = true)
    (hE : oc_recv C a s H) (k : W p l e R s m args below meth c H locs cells slots Q (F0 m hp ls [.ref a])) : oc_X p l e R s m args below meth c H locs cells slots Q (F0 m pc ls rest) a := by
  intro T hT X
  obtain ⟨cell, h1, h2, h3⟩ := hE
  have hpl : e.platform.magicAccessors = ({} : Platform).magicAccessors := by rw [X.admits.platform]
  obtain ⟨c', hc', hcl⟩ := Cond.classLink_spec hown hlink e.platform hpl
  obtain ⟨c3, c4, hc3, hc4, hasg⟩ := Cond.castable_spec hcast
  cases Option.some.inj (hc3.symm.trans h3)
  cases Option.some.inj (hc4.symm.trans hc')
  obtain ⟨dk, _, _, kt, hd, _, _, _, _, hkt, _, hopen⟩ := hcl.here
  have hW' : s.WarmedH (T.vm.noted m.cls ct (.cls c')) := X.warmed.noted hd hopen (State.rightAt_cls hcl)
  have al := X.warmed.alike
  obtain ⟨kt', hkt', -⟩ := al.2.2 _ _ hkt
  have hasg' : T.vm.assignable cell.cls c' = true := by rw [al.assignable]; exact hasg
  have X' := X.noted hW'
  obtain ⟨t, q1, q2⟩ := k (T.setVm (T.vm.noted m.cls ct (.cls c'))) hT X'
  refine ⟨t, oc_cgt (g := F0 m pc ls rest) X.here (pc := hp) (vm' := T.vm.noted m.cls ct (.cls c')) (fun Q2 E d acts => ?_) q1, q2⟩
  rw [W.findHandler_eq (s := (T.setTop (F0 m pc ls rest)).pushFrame (.throwing a)) (f := F0 m pc ls rest) (meth := meth) (code := c) X.method' X.code, htab]
  have key := oc_fh (e := e) (s := (T.setTop (F0 m pc ls rest)).pushFrame (.throwing a)) (f := F0 m pc ls rest) (a := a) (x := ⟨st, en, hp, ct⟩) (t := tableOf hs) (c := c') (cell := cell) (by simp [hcov]) hct (X.warmed.classLinks hcl)
    (by rw [Stand.throwing_heap, hT]; exact h1) (VmData.ne_statics_of h2) (by rw [Stand.throwing_vm]; exact Vm.classAt_of_assignable hasg' ⟨kt', hkt'⟩) (by rw [Stand.throwing_vm]; exact ⟨kt', hkt'⟩) Q2 E d acts
  rw [Stand.throwing_vm, if_pos hasg'] at key
  exact key
/-- passed by the first row, caught by the second -/
theorem oc_catch2 {st en hp ct st2 en2 hp2 ct2 : Nat} (htab : c.exceptionTable.toList = tableOf ((st, en, hp, ct) :: (st2, en2, hp2, ct2) :: hs)) (hcov : st ≤ pc ∧ pc < en) (hct : ct ≠ 0) (hcov2 : st2 ≤ pc ∧ pc < en2) (hct2 : ct2 ≠ 0) (hown : s.vm.findClass own = some m.cls) (hlink : (Cond.classLink own ct n1).before args s = true) (hno : va_Nc C n1 s) (hlink2 : (Cond.classLink own ct2 n2).before args s = true) (hcast : (Cond.castable C n2).before args s = true)
    (hE : oc_recv C a s H) (k : W p l e R s m args below meth c H locs cells slots Q (F0 m hp2 ls [.ref a])) : oc_X p l e R s m args below meth c H locs cells slots Q (F0 m pc ls rest) a := by
  intro T hT X
  obtain ⟨cell, h1, h2, h3⟩ := hE
  have hpl : e.platform.magicAccessors = ({} : Platform).magicAccessors := by rw [X.admits.platform]
  obtain ⟨c', hc', hcl⟩ := Cond.classLink_spec hown hlink e.platform hpl
  obtain ⟨c2, hc2, hcl2⟩ := Cond.classLink_spec hown hlink2 e.platform hpl
  obtain ⟨c3, c4, hc3, hc4, hasg⟩ := Cond.castable_spec hcast
  obtain ⟨n3, n4, hn3, hn4, hnasg⟩ := hno
  cases Option.some.inj (hc3.symm.trans h3)
  cases Option.some.inj (hc4.symm.trans hc2)
  cases Option.some.inj (hn3.symm.trans h3)
  cases Option.some.inj (hn4.symm.trans hc')
  obtain ⟨dk, _, _, kt, hd, _, _, _, _, hkt, _, hopen⟩ := hcl.here
  obtain ⟨dk2, _, _, kt2, hd2, _, _, _, _, hkt2, _, hopen2⟩ := hcl2.here
  have hW1 : s.WarmedH (T.vm.noted m.cls ct (.cls c')) := X.warmed.noted hd hopen (State.rightAt_cls hcl)
  have hW2 : s.WarmedH ((T.vm.noted m.cls ct (.cls c')).noted m.cls ct2 (.cls c2)) := hW1.noted hd2 hopen2 (State.rightAt_cls hcl2)
  have al := X.warmed.alike
  obtain ⟨kt', hkt', -⟩ := al.2.2 _ _ hkt
  obtain ⟨kt2', hkt2', -⟩ := hW1.alike.2.2 _ _ hkt2
  have hnasg' : T.vm.assignable cell.cls c' = false := by rw [al.assignable]; exact hnasg
  have hasg' : (T.vm.noted m.cls ct (.cls c')).assignable cell.cls c2 = true := by rw [hW1.alike.assignable]; exact hasg
  have hasg0 : s.vm.assignable cell.cls c2 = true := hasg
  obtain ⟨kz, hkz⟩ := Vm.classAt_of_assignable hasg0 ⟨kt2, hkt2⟩
  obtain ⟨kz', hkz', -⟩ := al.2.2 _ _ hkz
  have X' := X.noted hW2
  obtain ⟨t, q1, q2⟩ := k (T.setVm ((T.vm.noted m.cls ct (.cls c')).noted m.cls ct2 (.cls c2))) hT X'
  refine ⟨t, oc_cgt (g := F0 m pc ls rest) X.here (pc := hp2) (vm' := (T.vm.noted m.cls ct (.cls c')).noted m.cls ct2 (.cls c2)) (fun Q2 E d acts => ?_) q1, q2⟩
  rw [W.findHandler_eq (s := (T.setTop (F0 m pc ls rest)).pushFrame (.throwing a)) (f := F0 m pc ls rest) (meth := meth) (code := c) X.method' X.code, htab]
  have key := oc_fh (e := e) (s := (T.setTop (F0 m pc ls rest)).pushFrame (.throwing a)) (f := F0 m pc ls rest) (a := a) (x := ⟨st, en, hp, ct⟩) (t := tableOf ((st2, en2, hp2, ct2) :: hs)) (c := c') (cell := cell) (by simp [hcov]) hct (X.warmed.classLinks hcl)
    (by rw [Stand.throwing_heap, hT]; exact h1) (VmData.ne_statics_of h2) (by rw [Stand.throwing_vm]; exact ⟨kz', hkz'⟩) (by rw [Stand.throwing_vm]; exact ⟨kt', hkt'⟩) Q2 E d acts
  rw [Stand.throwing_vm, if_neg (by rw [hnasg']; decide)] at key
  have key2 := oc_fh (e := e) (s := ((T.setTop (F0 m pc ls rest)).pushFrame (.throwing a)).setVm (T.vm.noted m.cls ct (.cls c'))) (f := F0 m pc ls rest) (a := a) (x := ⟨st2, en2, hp2, ct2⟩) (t := tableOf hs) (c := c2) (cell := cell) (by simp [hcov2]) hct2 (hW1.classLinks hcl2)
    (by show ((T.setTop (F0 m pc ls rest)).pushFrame (.throwing a)).heap[a]? = _; rw [Stand.throwing_heap, hT]; exact h1) (VmData.ne_statics_of h2) (Vm.classAt_of_assignable hasg' ⟨kt2', hkt2'⟩) ⟨kt2', hkt2'⟩ Q2 E d acts
  rw [if_pos (show (((T.setTop (F0 m pc ls rest)).pushFrame (.throwing a)).setVm (T.vm.noted m.cls ct (.cls c'))).vm.assignable cell.cls c2 = true from hasg')] at key2
  exact key.trans key2
end OCK2
