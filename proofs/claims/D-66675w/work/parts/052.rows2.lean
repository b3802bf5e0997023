/-! ===== more ways to call; rows for references; the empty list's array ===== -/
section OCI2
variable {p : Program} {l : Launch} {e : Env} {R : Room} {s : State} {m : MethodId} {args : Array Value} {below : List Frame} {meth : Method} {c : Code} {H : Heap} {locs : List Loc} {cells slots : Nat} {Q : State → Prop}
variable {cc : ByteArray} {pc : Nat} {ls : Array Slot} {rest st0 : List Value}
/-- through an interface: the object is of the class C -/
theorem oc_iF {own C : String} {index count b : Nat} {x y : MethodName} {As : List Value} (hx : p.tables.exec = Jvm.exec) (hb : c.code = cc) (hown : s.vm.findClass own = some m.cls) (hlink : (Cond.methodLink own index x).before args s = true) (hF : va_Fw C x y s) (hsel : (Cond.selects C x y).before args s = true) (hinst : (Cond.instanceMethod y).before args s = true) (hrc : oc_recv C b s H)
    (hd : x.cls ≠ "java/lang/invoke/MethodHandle" ∧ x.cls ≠ "java/lang/invoke/VarHandle" ∧ (parseMethodDescriptor x.desc).map (fun d => d.parameters.length) = some As.length) (hdg : decode cc pc = .ok (.invokeinterface index count, 5)) (hst : st0 = As.reverse ++ .ref b :: rest) :
    oc_I p l e R s m args below meth c H locs cells slots (F0 m pc ls st0) rest y (.ref b :: As) := by
  intro T hT X
  obtain ⟨cellB, hcell, hobj, hcls⟩ := hrc
  obtain ⟨f1, f2, f3, f4, f5⟩ := hF
  obtain ⟨r0, r, hn, hrm, hstR, hsigR⟩ := Cond.declares_spec f1
  obtain ⟨cL, kL, r1, hcL, hkL, hiL, hfoundL, hn1⟩ := Cond.interfaceMethod_spec f2
  cases hn.symm.trans hn1
  have hr0cls : r0.cls = cL := Option.some.inj ((findClass_of_methodNamed hn).symm.trans hcL)
  obtain ⟨hnameR, hdescR⟩ := name_of_methodNamed hn hrm
  obtain ⟨mk, methM, hnamed, hmethM, -, habM⟩ := Cond.instanceMethod_spec hinst
  obtain ⟨c2, r2, m2, q1, q2, q3, q4, -⟩ := Cond.selects_spec hsel
  cases hcls.symm.trans q1
  cases hfoundL.symm.trans q2
  cases hnamed.symm.trans q3
  have hselP : selectMethod e.platform s.vm cellB.cls r0 = .method mk := by rw [Launch.admits_selectMethod X.admits]; exact q4
  have hpubM : hasFlag methM.accessFlags Acc.public_ = true := Cond.publicMethod_spec hnamed hmethM f3
  have hway : ((cellB.cls :: s.vm.superclasses cellB.cls).any fun k => (declaredIn s.vm r.name r.desc k).any fun (_, z) => z.isPrivate || z.isStatic) = false := by
    rw [hnameR, hdescR]; exact Cond.unhidden_spec hcls f4
  obtain ⟨c3, t3, w1, w2, w3⟩ := Cond.castable_spec f5
  cases hcls.symm.trans w1
  cases hcL.symm.trans w2
  obtain ⟨kB, hkB⟩ := Vm.classAt_of_findClass hcls
  have hlen : As.length = r.sig.parameters.length := by
    have h2 := hd.2.2
    rw [hsigR] at h2
    exact (Option.some.inj h2).symm
  obtain ⟨vm₁, X₁, hstep⟩ := X.invokeinterface hx hown hlink hn hrm hstR (by rw [hr0cls]; exact hkL) hiL ⟨hd.1, hd.2.1⟩ (a := b) (cell := cellB) (kcell := kB) (by rw [hT]; exact hcell)
    (fun z h => by rw [h] at hobj; cases hobj) hkB (by rw [hr0cls]; exact w3) hselP hmethM hway hpubM habM (g := F0 m pc ls st0) rfl (argsL := As) (rest := rest) hlen hst (by show decode c.code pc = _; rw [hb]; exact hdg)
  exact ⟨vm₁, mk, X₁, hnamed, fun target h => hstep _ fun acts => by rw [doInvoke_state]; exact h⟩
/-- a method that the link names in a class above: x is declared there, the object's class C has y -/
theorem oc_iU {own C owner : String} {index b : Nat} {x y : MethodName} {As : List Value} (hx : p.tables.exec = Jvm.exec) (hb : c.code = cc) (hown : s.vm.findClass own = some m.cls) (hlink : (Cond.methodLink own index x).before args s = true) (hsame : (Cond.sameMethod x.cls owner x.name x.desc).before args s = true) (hd0 : va_Nw (.declares ⟨owner, x.name, x.desc⟩) s) (hsel : (Cond.selects C x y).before args s = true) (hinst : (Cond.instanceMethod y).before args s = true) (hrc : oc_recv C b s H)
    (hd : owner ≠ "java/lang/invoke/MethodHandle" ∧ owner ≠ "java/lang/invoke/VarHandle" ∧ (parseMethodDescriptor x.desc).map (fun d => d.parameters.length) = some As.length) (hdg : decode cc pc = .ok (.invokevirtual index, 3)) (hst : st0 = As.reverse ++ .ref b :: rest) :
    oc_I p l e R s m args below meth c H locs cells slots (F0 m pc ls st0) rest y (.ref b :: As) := by
  intro T hT X
  obtain ⟨cellB, hcell, hobj, hcls⟩ := hrc
  obtain ⟨r0, r, hn, hrm, hstR, hsigR⟩ := va_Decl.abs hd0
  obtain ⟨cn, ck, r1, hcn, hck, hni, hf, hn1⟩ := Cond.sameMethod_found hsame
  cases hn.symm.trans hn1
  obtain ⟨mk, methM, hnamed, hmethM, -, habM⟩ := Cond.instanceMethod_spec hinst
  obtain ⟨c2, r2, m2, q1, q2, q3, q4, kP, hkP, hkPi⟩ := Cond.selects_spec hsel
  cases hcls.symm.trans q1
  cases hf.symm.trans q2
  cases hnamed.symm.trans q3
  have hselP : selectMethod e.platform s.vm cellB.cls r0 = .method mk := by rw [Launch.admits_selectMethod X.admits]; exact q4
  have hsig2 : parseMethodDescriptor x.desc = some r.sig := hsigR
  have hlen : As.length = r.sig.parameters.length := by
    have h2 := hd.2.2
    rw [hsig2] at h2
    exact (Option.some.inj h2).symm
  obtain ⟨vm₁, X₁, hstep⟩ := X.invokevirtualUp hx hown hlink hsame ⟨hd.1, hd.2.1⟩ hn hrm hstR (a := b) (cell := cellB) (by rw [hT]; exact hcell)
    (fun z h => by rw [h] at hobj; cases hobj) hselP hmethM habM hkP hkPi (g := F0 m pc ls st0) rfl (argsL := As) (rest := rest) hlen hst (by show decode c.code pc = _; rw [hb]; exact hdg)
  exact ⟨vm₁, mk, X₁, hnamed, fun target h => hstep _ fun acts => by rw [doInvoke_state]; exact h⟩
end OCI2
/-- an object of a class of the system -/
def oc_Ob (D : va_G) (H : Heap) (y : Nat) : Prop := ∃ (ci : Nat) (fs : List Value), va_at D oc_cl (y, .inr (ci, fs)) H
theorem oc_obc : ∀ (ci : Nat) (r : vw_C), oc_cl[ci]? = some r → Cond.castable r.1 "java/lang/Object" ∈ lw_tbl
  | 0, _, h => by cases h; exact q1025
  | 1, _, h => by cases h; exact q1026
  | 2, _, h => by cases h; exact q1028
  | 3, _, h => by cases h; exact q1029
  | 4, _, h => by cases h; exact q1027
  | 5, _, h => by cases h; exact q1031
  | 6, _, h => by cases h; exact q1032
  | 7, _, h => by cases h; exact q1033
  | 8, _, h => by cases h; exact q1034
  | 9, _, h => by cases h; exact q1035
  | 10, _, h => by cases h; exact q1036
  | 11, _, h => by cases h; exact q1037
  | 12, _, h => by cases h; exact q1040
  | 13, _, h => by cases h; exact q1042
  | n + 14, _, h => by cases h
theorem oc_any {l : Launch} {s0 : State} {b0 : Addr} {D : va_G} {d : Nat → ClassId} {s : State} (G : oc_G l s0 b0 D d) (hok : oc_Ok s0 s) {H : Heap} {y : Nat} (h : oc_Ob D H y) : va_Any "java/lang/Object" s H y := by
  obtain ⟨ci, fs, ha⟩ := h
  obtain ⟨r, hr, hob⟩ := ha
  refine va_rAny (ws := [(y, .inr (ci, fs))]) (q0 := 0) (oc_K G hok) (fun k q hk => ?_) rfl hr (fun comp c0 h1 h2 => ?_)
  · have hz : k < 1 := (List.getElem?_eq_some_iff.mp hk).1
    rw [show k = 0 by omega] at hk
    cases hk
    exact ⟨r, hr, hob⟩
  · obtain ⟨c1, c2, e1, e2, e3⟩ := Cond.castable_spec (oc_w (args := #[]) G hok (oc_obc ci r hr) rfl)
    cases Option.some.inj (e1.symm.trans h2)
    cases Option.some.inj (e2.symm.trans h1)
    exact e3
/-- the array that an empty list is made with -/
def oc_E (s0 : State) (E0 : Nat) : Prop := va_Z "java/util/ArrayList" "DEFAULTCAPACITY_EMPTY_ELEMENTDATA" "[Ljava/lang/Object;" (.ref E0) (fun q => s0.heap.size ≤ q) s0 s0.heap ∧ va_T (.object "java/lang/Object") E0 0 (fun _ => .null) (fun q => s0.heap.size ≤ q) s0 s0.heap
theorem oc_E.z {s0 s : State} {E0 : Nat} {A : Nat → Prop} (hE : oc_E s0 E0) (hok : oc_Ok s0 s) (hN : ∀ q, A q → s0.heap.size ≤ q) : va_Z "java/util/ArrayList" "DEFAULTCAPACITY_EMPTY_ELEMENTDATA" "[Ljava/lang/Object;" (.ref E0) A s s.heap :=
  ((va_Z.moved hok.1.alike hE.1).kept (fun a h _ => hok.2.2 a h)).narrow hN
theorem oc_E.t {s0 s : State} {E0 : Nat} {A : Nat → Prop} (hE : oc_E s0 E0) (hok : oc_Ok s0 s) (hN : ∀ q, A q → s0.heap.size ≤ q) : va_T (.object "java/lang/Object") E0 0 (fun _ => .null) A s s.heap :=
  ((va_T.moved hok.1.alike hE.2).kept (fun a h _ => hok.2.2 a h)).narrow hN
theorem oc_E.lt {s0 : State} {E0 : Nat} (hE : oc_E s0 E0) : E0 < s0.heap.size := Nat.not_le.mp (va_T.out hE.2)
theorem oc_E.of {l : Launch} {s0 : State} {b0 : Addr} {D : va_G} {d : Nat → ClassId} (G : oc_G l s0 b0 D d) : ∃ E0, oc_E s0 E0 := by
  have hA : ∀ a : Nat, a < s0.heap.size → ¬ (fun q => s0.heap.size ≤ q) a := fun a h => Nat.not_le.mpr h
  obtain ⟨t, e1, hT⟩ := va_Tof (N := 0) (f := fun _ => .null) (A := fun q => s0.heap.size ≤ q) (by decide) (oc_flat G (w := Cond.arrayOf (.static "java/util/ArrayList" "DEFAULTCAPACITY_EMPTY_ELEMENTDATA" "[Ljava/lang/Object;") (.object "java/lang/Object")) (by decide +kernel))
    (va_eqt (oc_flat G (w := Cond.eq (.length (.static "java/util/ArrayList" "DEFAULTCAPACITY_EMPTY_ELEMENTDATA" "[Ljava/lang/Object;")) (.int 0)) (by decide +kernel))) (fun j hj => absurd hj (Nat.not_lt_zero j)) hA
  exact ⟨t, va_Zof (G.2.1 _ q102) (G.2.1 _ (lw_all_tbl q28)) e1 hA, hT⟩
section OCR2
variable {p : Program} {l : Launch} {e : Env} {R : Room} {s : State} {m : MethodId} {args : Array Value} {below : List Frame} {meth : Method} {c : Code} {H : Heap} {locs : List Loc} {cells slots : Nat} {Q : State → Prop}
variable {cc : ByteArray} {pc : Nat} {ls : Array Slot} {rest : List Value} {D : va_G} {cl : List vw_C} {A : Nat → Prop} {a : Nat} {tys : List (ClassId × FieldType)} {ws : va_W} {H0 : Heap}
theorem oc_aald (hx : p.tables.exec = Jvm.exec) (hb : c.code = cc) (hK : va_K D cl tys s) (hP : va_P D cl ws H) (q0 t0 : Nat) {cA : ClassId} {C : String} {n : Nat} {f : Nat → Option Nat} (ha : ws[q0]? = some (a, .inl (cA, n, .inr (.inr (.inr (.inr f)))))) (ht : tys[t0]? = some (cA, .object C)) {i : Int32} (k : Nat) (hi : i = nI k) (hk : k < n) (hn : n < 2147483648) {y : Nat} (hy : f k = some y) (hdg : decode cc pc = .ok (.aaload, 1))
    (kk : W p l e R s m args below meth c H locs cells slots Q (F0 m (pc + 1) ls (.ref y :: rest))) : W p l e R s m args below meth c H locs cells slots Q (F0 m pc ls (.int i :: .ref a :: rest)) :=
  va_aldq hx hb hK hP q0 t0 ha ht (oc_ix hi hk hn) hdg (by rw [oc_cl32 hi hk hn, hy]; exact kk)
theorem oc_aast (hx : p.tables.exec = Jvm.exec) (hb : c.code = cc) (hK : va_K D cl tys s) (hP : va_P D cl ws H) (hD : va_D A ws) (hS : va_S A H0 H locs) (q0 t0 : Nat) {E : String} {cA : ClassId} {n v : Nat} {f : Nat → Option Nat} (ha : ws[q0]? = some (a, .inl (cA, n, .inr (.inr (.inr (.inr f)))))) (ht : tys[t0]? = some (cA, .object E)) (hr : va_Any E s H v) {i : Int32} (k : Nat) (hi : i = nI k) (hk : k < n) (hn : n < 2147483648) (hdg : decode cc pc = .ok (.aastore, 1))
    (kk : ∀ (H1 : Heap) (locs1 : List Loc), va_P D cl (ws.set q0 (a, .inl (cA, n, .inr (.inr (.inr (.inr (va_up f k (some v)))))))) H1 → va_D A (ws.set q0 (a, .inl (cA, n, .inr (.inr (.inr (.inr (va_up f k (some v)))))))) → va_S A H0 H1 locs1 → W p l e R s m args below meth c H1 locs1 cells slots Q (F0 m (pc + 1) ls rest)) : W p l e R s m args below meth c H locs cells slots Q (F0 m pc ls (.ref v :: .int i :: .ref a :: rest)) :=
  va_astqM hx hb hK hP hD hS q0 t0 ha ht hr (oc_ix hi hk hn) hdg (by rw [oc_cl32 hi hk hn]; exact kk)
theorem oc_aastN (hx : p.tables.exec = Jvm.exec) (hb : c.code = cc) (hK : va_K D cl tys s) (hP : va_P D cl ws H) (hD : va_D A ws) (hS : va_S A H0 H locs) (q0 t0 : Nat) {C : String} {cA : ClassId} {n : Nat} {f : Nat → Option Nat} (ha : ws[q0]? = some (a, .inl (cA, n, .inr (.inr (.inr (.inr f)))))) (ht : tys[t0]? = some (cA, .object C)) {i : Int32} (k : Nat) (hi : i = nI k) (hk : k < n) (hn : n < 2147483648) (hdg : decode cc pc = .ok (.aastore, 1))
    (kk : ∀ (H1 : Heap) (locs1 : List Loc), va_P D cl (ws.set q0 (a, .inl (cA, n, .inr (.inr (.inr (.inr (va_up f k none))))))) H1 → va_D A (ws.set q0 (a, .inl (cA, n, .inr (.inr (.inr (.inr (va_up f k none))))))) → va_S A H0 H1 locs1 → W p l e R s m args below meth c H1 locs1 cells slots Q (F0 m (pc + 1) ls rest)) : W p l e R s m args below meth c H locs cells slots Q (F0 m pc ls (.null :: .int i :: .ref a :: rest)) :=
  va_astqN hx hb hK hP hD hS q0 t0 ha ht (oc_ix hi hk hn) hdg (by rw [oc_cl32 hi hk hn]; exact kk)
/-- acmp of two references -/
theorem oc_acmp_eq {x y : Nat} {off : Int} {tgt : Nat} (hx : p.tables.exec = Jvm.exec) (hb : c.code = cc) (hdg : decode cc pc = .ok (.if_acmp .eq off, 3)) (ht : (pc : Int) + off = (tgt : Int))
    (kt : x = y → W p l e R s m args below meth c H locs cells slots Q (F0 m tgt ls rest)) (kf : ¬ x = y → W p l e R s m args below meth c H locs cells slots Q (F0 m (pc + 3) ls rest)) : W p l e R s m args below meth c H locs cells slots Q (F0 m pc ls (.ref y :: .ref x :: rest)) :=
  lv_acmp_eq (rx := some x) (ry := some y) hx hb hdg ht (fun h => kt (Option.some.inj h)) (fun h => kf (fun z => h (by rw [z])))
theorem oc_acmp_ne {x y : Nat} {off : Int} {tgt : Nat} (hx : p.tables.exec = Jvm.exec) (hb : c.code = cc) (hdg : decode cc pc = .ok (.if_acmp .ne off, 3)) (ht : (pc : Int) + off = (tgt : Int))
    (kt : ¬ x = y → W p l e R s m args below meth c H locs cells slots Q (F0 m tgt ls rest)) (kf : x = y → W p l e R s m args below meth c H locs cells slots Q (F0 m (pc + 3) ls rest)) : W p l e R s m args below meth c H locs cells slots Q (F0 m pc ls (.ref y :: .ref x :: rest)) :=
  lv_acmp_ne (rx := some x) (ry := some y) hx hb hdg ht (fun h => kt (fun z => h (by rw [z]))) (fun h => kf (Option.some.inj h))
end OCR2
theorem oc_P1 {D : va_G} {cl : List vw_C} {q : Nat × va_E} {H : Heap} (h : va_at D cl q H) : va_P D cl [q] H := by
  intro k x hk
  have hz : k < 1 := (List.getElem?_eq_some_iff.mp hk).1
  rw [show k = 0 by omega] at hk
  cases hk
  exact h
theorem oc_Pc {D : va_G} {cl : List vw_C} {q : Nat × va_E} {ws : va_W} {H : Heap} (h : va_at D cl q H) (hw : va_P D cl ws H) : va_P D cl (q :: ws) H := (oc_P1 h).app hw
theorem oc_D0 {A : Nat → Prop} : va_D A [] := ⟨fun i j p q h => by simp at h, fun k q h => by simp at h⟩
theorem oc_Dc {A : Nat → Prop} {q : Nat × va_E} {ws : va_W} (hq : A q.1) (hw : va_D A ws) (hn : ∀ x ∈ ws, q.1 ≠ x.1) : va_D A (q :: ws) := by
  refine ⟨fun i j x y hi hj hxy => ?_, fun k x hk => ?_⟩
  · cases i with
    | zero =>
      cases j with
      | zero => rfl
      | succ j => cases hi; exact absurd hxy (hn y (List.mem_of_getElem? hj))
    | succ i =>
      cases j with
      | zero => cases hj; exact absurd hxy.symm (hn x (List.mem_of_getElem? hi))
      | succ j => rw [hw.1 i j x y hi hj hxy]
  · cases k with
    | zero => cases hk; exact hq
    | succ k => exact hw.2 k x hk
