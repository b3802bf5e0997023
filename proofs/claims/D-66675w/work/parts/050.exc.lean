/-! ===== exceptions: words, made, thrown, caught ===== -/
/-- words of the tables that hold all through a run: the good ones, castable, declares, laysStatic -/
def oc_gw : Cond → Bool
  | .castable _ _ => true
  | .declares _ => true
  | .laysStatic _ _ _ => true
  | w => goodWord w
section OCX1
variable {l : Launch} {s0 : State} {b0 : Addr} {D : va_G} {d : Nat → ClassId} {s : State} {args : Array Value}
theorem oc_lstat (hok : oc_Ok s0 s) {O f dd : String} {a0 : Array Value} (h : (Cond.laysStatic O f dd).before a0 s0 = true) : (Cond.laysStatic O f dd).before args s = true := by
  obtain ⟨c, k, i, fd, a, cell, hc, hi, hst, ha, hcell, hs, hcls, hlt, hty⟩ := Cond.laysStatic_spec (Cond.laysStatic_setVm hok.1.alike h)
  have hcell0 : s0.heap[a]? = some cell := hcell
  exact Cond.laysStatic_of (s := s) hc hi hst ha ((hok.2.2 a (Array.getElem?_eq_some_iff.mp hcell0).1).trans hcell0) hs hcls hlt hty
theorem oc_w (G : oc_G l s0 b0 D d) (hok : oc_Ok s0 s) {w : Cond} (hw : w ∈ lw_tbl) (hg : oc_gw w = true) : w.before args s = true := by
  have h0 := G.2.1 w hw
  by_cases h : goodWord w = true
  · exact word_at hok.1 (good_of_word h) h0
  · cases w <;> first | exact absurd hg h | exact va_Nw.use rfl (va_Nw.warmC hok.1 (va_Nw.of rfl h0)) | exact va_Nw.use rfl (va_Nw.warmD hok.1 (va_Nw.of rfl h0)) | exact oc_lstat hok h0
theorem oc_ws (G : oc_G l s0 b0 D d) (hok : oc_Ok s0 s) (L : List Cond) (ps : List Nat) (hp : L = ps.filterMap (fun i => lw_tbl[i]?)) (hg : L.all oc_gw = true) : ∀ w ∈ L, w.before args s = true := by
  intro w hw
  have hw2 := hw
  rw [hp] at hw2
  obtain ⟨i, -, hi⟩ := List.mem_filterMap.mp hw2
  exact oc_w G hok (List.mem_of_getElem? hi) (List.all_eq_true.mp hg w hw)
theorem oc_isref (G : oc_G l s0 b0 D d) (hok : oc_Ok s0 s) {C n dd : String} (hl : Cond.laysStatic C n dd ∈ lw_tbl) (hw : Cond.isRef (.static C n dd) ∈ flatC (Jvm.Cond.and given_1 narrow_1)) : (Cond.isRef (.static C n dd)).before args s = true := by
  obtain ⟨v, hv, hr⟩ := Cond.isRef_spec (oc_flat G hw)
  obtain ⟨c, k, i, fd, a, cell, hc, hi, hst, ha, hcell, hs, hcls, hlt, hty⟩ := Cond.laysStatic_spec (G.2.1 _ hl)
  obtain ⟨k', hi', hek⟩ := State.fieldFound?_setVm hok.1.alike hi
  have hi2 : s.fieldFound? C n dd = some (c, k', i, fd) := hi'
  have hcell2 : s.heap[a]? = some cell := (hok.2.2 a (Array.getElem?_eq_some_iff.mp hcell).1).trans hcell
  have hk2 : k'.statics = some a := by rw [hek]; exact ha
  have e0 : (Term.static C n dd).eval #[Value.ref b0] s0 none [] s0 = cell.slots[fd.slot]? := by
    simp [Term.eval, State.fieldNamed?, hi, hst, ha, hcell, hs]
  have e1 : (Term.static C n dd).eval args s none [] s = cell.slots[fd.slot]? := by
    simp [Term.eval, State.fieldNamed?, hi2, hst, hk2, hcell2, hs]
  have e2 : (Term.static C n dd).eval args s none [] s = some v := by rw [e1, ← e0]; exact hv
  show (Cond.isRef (.static C n dd)).holds args s none s [] = true
  cases v <;> simp [Value.isRef] at hr <;> simp [Cond.holds, Cond.value, e2]
end OCX1
/-- what is asked for the constructor of an exception without a message -/
def oc_xat (X : String) (names : List String) : List Cond := Bundle.throwableAtoms ++ Bundle.chain0Atoms X names ++
  [.instantiable X 6, .castable X X, .selects X Bundle.tFill0 Bundle.tFill0, .selects X Bundle.tFill Bundle.tFill, .lays X Bundle.tN "cause" "Ljava/lang/Throwable;", .lays X Bundle.tN "stackTrace" Bundle.steD, .lays X Bundle.tN "suppressedExceptions" Bundle.listD, .fieldLink Bundle.tN 198 Bundle.tN "backtrace" "Ljava/lang/Object;", .lays Bundle.tN Bundle.tN "backtrace" "Ljava/lang/Object;", .lays X Bundle.tN "backtrace" "Ljava/lang/Object;"]
/-- the two references that Throwable keeps -/
def oc_xst (args : Array Value) (s : State) : Prop := (Cond.isRef (.static Bundle.tN "UNASSIGNED_STACK" Bundle.steD)).before args s = true ∧ (Cond.isRef (.static Bundle.tN "SUPPRESSED_SENTINEL" Bundle.listD)).before args s = true
/-- an object of the class C stands at a -/
def oc_Ex (s0 : State) (C : String) (H : Heap) (a : Nat) : Prop := ∃ cell : Cell, H[a]? = some cell ∧ cell.vm.isStatics = false ∧ s0.vm.findClass C = some cell.cls
def oc_T (s0 : State) (C : String) (H : Heap) : Outcome → Heap → Nat → Nat → Prop := fun o H1 k n => ∃ a : Nat, o = .threw a ∧ k = 1 ∧ n = 6 ∧ H.size ≤ a ∧ oc_Ex s0 C H1 a
def oc_fA (H : Heap) : Nat → Prop := fun q => H.size ≤ q
section OCX2
variable {p : Program} {l : Launch} {e : Env} {R : Room} {s : State} {m : MethodId} {args : Array Value} {below : List Frame} {meth : Method} {c : Code} {H : Heap} {locs : List Loc} {cells slots : Nat} {Q : State → Prop}
variable {cc : ByteArray} {pc nL len : Nat} {ls : Array Slot} {rest st0 : List Value}
set_option maxHeartbeats 2000000 in
/-- the constructor of an exception without a message -/
theorem oc_xinit {cls : String} {names : List String} {a : Nat} {cX : ClassId} {kX : Class} {ig : Instr} (hx : p.tables.exec = Jvm.exec) (hb : c.code = cc) (hml : c.maxLocals = nL) (hl : ls.size = nL) (hst : l.stackTraces = false)
    (hI : oc_I p l e R s m args below meth c H [] cells slots (F0 m pc ls (.ref a :: rest)) rest (Bundle.init0 cls) [.ref a])
    (hcls : Bundle.fit cls = true) (hnames : ∀ n ∈ names, Bundle.fit n = true) (h : ∀ w ∈ oc_xat cls names, w.before args s = true) (hs2 : oc_xst args s)
    (hfoundX : s.vm.findClass cls = some cX) (hkX : s.vm.classes[cX]? = some kX) (hcell : H[a]? = some (blank cX kX)) (hnew : s.heap.size ≤ a) (hdg : decode cc pc = .ok (ig, len))
    (hfr : names.length + 3 < R.frames) (hlo : (rest.map fun v => v.category).sum + (13 * (names.length + 1) + 41) ≤ R.locals)
    (kk : ∀ (H1 : Heap) (locs1 : List Loc) (ce : Cell), H1.size = H.size → (∀ q, q ≠ a → H1[q]? = H[q]?) → H1[a]? = some ce → ce.cls = cX → ce.vm.isStatics = false → (∀ x ∈ locs1, x.base = a) → W p l e R s m args below meth c H1 locs1 cells slots Q (F0 m (pc + len) ls rest)) :
    W p l e R s m args below meth c H [] cells slots Q (F0 m pc ls (.ref a :: rest)) := by
  intro T0 hT0 X0
  have htr : e.platform.stackTraces = false := by rw [X0.admits.platform]; exact hst
  have howns : e.platform.frameOwnsMonitors = true := by rw [X0.admits.platform]
  have hfin : e.platform.finalization = false := by rw [X0.admits.platform]
  have hpl : e.platform.magicAccessors = ({} : Platform).magicAccessors := by rw [X0.admits.platform]
  obtain ⟨vm₁, mk, X₁, hnm, st1⟩ := hI T0 hT0 X0
  have a' : ∀ x, x ∈ oc_xat cls names → x.holds args s none s [] = true := fun x hx => h x hx
  obtain ⟨T, Z, L, LZ, Y⟩ := ThrowableC.of_atoms (args := args) howns hfin hpl (fun x hx => h x (by simp [oc_xat, hx]))
  obtain ⟨P1, Ps, hlen, L1, hL, hP1m, hlink1, hlink⟩ := Bundle.chain0 (args := args) hpl Y.init0 names cls hcls hnames (fun x hx => h x (by simp [oc_xat, hx]))
  have hfound : s.vm.findClass cls = some P1.m.cls := findClass_of_methodNamed hP1m
  cases Option.some.inj (hfoundX.symm.trans hfound)
  cases Option.some.inj (hnm.symm.trans hP1m)
  obtain ⟨c1, kX', hc1, hk, hord, -, -, hn6⟩ := Cond.instantiable_spec (a' (.instantiable cls 6) (by simp [oc_xat]))
  cases Option.some.inj (hc1.symm.trans hfound)
  cases Option.some.inj (hkX.symm.trans hk)
  have hsel0 : selectMethod e.platform s.vm P1.m.cls T.fill0 = .method T.fill0 := by
    obtain ⟨c2, r2, m2, q1, q2, q3, q4, -⟩ := Cond.selects_spec (a' (.selects cls Bundle.tFill0 Bundle.tFill0) (by simp [oc_xat]))
    cases Option.some.inj (q1.symm.trans hfound)
    cases Option.some.inj (q2.symm.trans (State.methodFound?_of_named Y.fill0 (by decide)))
    cases Option.some.inj (q3.symm.trans Y.fill0)
    rw [Launch.admits_selectMethod X0.admits]; exact q4
  have hselF : selectMethod e.platform s.vm P1.m.cls T.fill = .method T.fill := by
    obtain ⟨c2, r2, m2, q1, q2, q3, q4, -⟩ := Cond.selects_spec (a' (.selects cls Bundle.tFill Bundle.tFill) (by simp [oc_xat]))
    cases Option.some.inj (q1.symm.trans hfound)
    cases Option.some.inj (q2.symm.trans (State.methodFound?_of_named Y.fill (by decide)))
    cases Option.some.inj (q3.symm.trans Y.fill)
    rw [Launch.admits_selectMethod X0.admits]; exact q4
  obtain ⟨cellS0, hcS0, hiss⟩ := Y.statics
  obtain ⟨u0, hu0⟩ := Cond.staticRefV Y.unassigned L.unassignedStatic L.statics hcS0 hiss hs2.1
  obtain ⟨sen, hsen⟩ := Cond.staticRefV Y.sentinel L.sentinelStatic L.statics hcS0 hiss hs2.2
  obtain ⟨ci198, i198, fB, hk198, hg198, ha198, hsB, -, hnB, htB, hffB⟩ := Cond.ownField (t := .object "java/lang/Object") Y.found L.cls (by decide +kernel) (a' (.fieldLink Bundle.tN 198 Bundle.tN "backtrace" "Ljava/lang/Object;") (by simp [oc_xat])) (a' (.lays Bundle.tN Bundle.tN "backtrace" "Ljava/lang/Object;") (by simp [oc_xat])) e.platform hpl
  obtain ⟨cellS, hcS', heS, -, hkeep⟩ := X₁.same.2.2.2.2.2 T.aS cellS0 hcS0
  have hcellS : (T0.setVm vm₁).heap[T.aS]? = some cellS := hcS'
  have hknownS : cellS.vm ≠ .unknown := by
    rw [heS]; intro hu
    rw [show cellS0.vm = .unknown from hu] at hiss
    cases hiss
  have hneS : T.aS ≠ a := Nat.ne_of_lt (Nat.lt_of_lt_of_le (Array.getElem?_eq_some_iff.mp hcS0).1 hnew)
  obtain ⟨tyC, dC, hdC, hdnC⟩ := Cond.laysAt hfound hk Y.cause (a' (.lays cls Bundle.tN "cause" "Ljava/lang/Throwable;") (by simp [oc_xat]))
  obtain ⟨tyS, dS, hdS, hdnS⟩ := Cond.laysAt hfound hk Y.stack (a' (.lays cls Bundle.tN "stackTrace" Bundle.steD) (by simp [oc_xat]))
  obtain ⟨tyP, dP, hdP, hdnP⟩ := Cond.laysAt hfound hk Y.supp (a' (.lays cls Bundle.tN "suppressedExceptions" Bundle.listD) (by simp [oc_xat]))
  obtain ⟨tyB, dB, hdB, hdnB⟩ := Cond.laysAt hfound hk hffB (a' (.lays cls Bundle.tN "backtrace" "Ljava/lang/Object;") (by simp [oc_xat]))
  have bC := Cond.laysApart hdB hdC hdnB hdnC (by rw [hnB, Y.causeName]; decide)
  have bS := Cond.laysApart hdB hdS hdnB hdnS (by rw [hnB, Y.stackName]; decide)
  have bP := Cond.laysApart hdB hdP hdnB hdnP (by rw [hnB, Y.suppName]; decide)
  have hcell0 : (T0.setVm vm₁).heap[a]? = some (freshCell P1.m.cls kX) := by rw [show (T0.setVm vm₁).heap = H from hT0]; exact hcell
  have hskip : SkipFacts T e.platform s (fun u => u) u0 ((preparedCellV T.toThrowableT (freshCell P1.m.cls kX) a u0 sen).withEntry (T0.setVm vm₁).cur) :=
    ⟨{ ci198 := ci198, i198 := i198, fBack := fB }, ⟨hk198, hg198, ha198, hsB⟩, by
      have := fresh_default (c := P1.m.cls) tyB
      rw [htB] at this
      simpa [preparedCellV, Cell.setSlot, Cell.withEntry, Array.getElem?_setIfInBounds, bC, bS, bP, bC.symm, bS.symm, bP.symm, defaultValue] using this, fun _ _ => rfl⟩
  have hdg' : decode c.code pc = .ok (ig, len) := by rw [hb]; exact hdg
  obtain ⟨vm₂, X₂, st2⟩ := X₁.ctorPlainOffV hx (g := { (F0 m pc ls (.ref a :: rest)) with stack := rest }) rfl (by show ls.size = _; rw [hl, hml]) T L Z LZ (P1 :: Ps)
    (fun P hP => by rcases List.mem_cons.mp hP with rfl | hP; exact L1; exact hL P hP) ⟨hlink1, hlink⟩ (u0 := u0) (sen := sen) (self := a) (cell := freshCell P1.m.cls kX) (cellS := cellS)
    hcell0 (fun _ => by simp) (by simp) rfl rfl hsel0 hselF hcellS hneS hknownS (by rw [hkeep _ List.not_mem_nil]; exact hu0) (by rw [hkeep _ List.not_mem_nil]; exact hsen)
    (Takes.of_laid hk hord tyC (by rw [Y.causeType]; rfl)) (Takes.of_laid hk hord tyS (by rw [Y.stackType]; exact fits_refV_array _ u0)) (Takes.of_laid hk hord tyP (by rw [Y.suppType]; exact fits_refV_object _ sen)) Y.objLocals hskip htr [] hdg'
    (by simp only [List.length_cons, hlen]; omega) (by simp only [List.length_cons, hlen]; show 2 * 0 + _ + _ ≤ _; omega)
  have hlt : a < ((T0.setVm vm₁).setVm vm₂).heap.size := (Array.getElem?_eq_some_iff.mp hcell0).1
  have hU := heapAt_setCell_self (s := (T0.setVm vm₁).setVm vm₂) ((preparedCellV T.toThrowableT (freshCell P1.m.cls kX) a u0 sen).setSlot T.fStack.slot u0.v) hlt
  obtain ⟨t, q1, q2⟩ := kk _ _ _ (by
      show (((T0.setVm vm₁).setVm vm₂).heap.setIfInBounds a _).size = _
      rw [Array.size_setIfInBounds]
      exact congrArg Array.size hT0) (fun q hq => by
      rw [heapAt_setCell_ne _ (Ne.symm hq)]
      exact congrArg (fun (z : Heap) => z[q]?) hT0) hU rfl rfl (fun x hx => by
      simp only [List.nil_append, List.mem_cons, List.not_mem_nil, or_false] at hx
      rcases hx with rfl | rfl | rfl | rfl <;> rfl) _ rfl X₂
  exact ⟨t, st1 _ (st2 _ q1), q2⟩
/-- a call that throws: k cells and n slots are made -/
theorem oc_callT {s0 : State} {A0 A1 : Nat → Prop} {y : MethodName} {rm : Room} {As : List Value} {Post : Outcome → Heap → Nat → Nat → Prop} {maxL : Nat} {ig : Instr} (hx : p.tables.exec = Jvm.exec) (hb : c.code = cc) (hml : c.maxLocals = nL) (hl : ls.size = nL) (hZ : oc_Z s0 s A0 H locs)
    (hI : oc_I p l e R s m args below meth c H locs cells slots (F0 m pc ls st0) rest y As) (hM : oc_M y maxL s) (hC : oc_C l s0 y rm As H A1 Post) (hA : ∀ q, A1 q → A0 q) (hT : ∀ o H1 k n, Post o H1 k n → ∃ a : Nat, o = .threw a) (hdg : decode cc pc = .ok (ig, len))
    (hfr : rm.frames + 1 ≤ R.frames) (hlo : (rest.map fun v => v.category).sum + (maxL + 11) + rm.locals ≤ R.locals) (hce : cells + rm.cells ≤ R.cells) (hsl : slots + rm.slots ≤ R.slots)
    (kt : ∀ (a : Addr) (H1 : Heap) (locs1 : List Loc) (k n : Nat), Post (.threw a) H1 k n → H.size ≤ H1.size → (∀ q : Nat, q < H.size → ¬ A1 q → H1[q]? = H[q]?) → va_S A0 s.heap H1 locs1 → oc_X p l e R s m args below meth c H1 locs1 (cells + k) (slots + n) Q (F0 m pc ls rest) a) :
    W p l e R s m args below meth c H locs cells slots Q (F0 m pc ls st0) :=
  oc_call hx hb hml hl hZ hI hM hC hA hdg hfr hlo hce hsl (fun v H1 locs1 k n hp => by obtain ⟨a, e⟩ := hT _ _ _ _ hp; cases e) kt
end OCX2
