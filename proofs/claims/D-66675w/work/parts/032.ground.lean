/-! ===== the ground: what holds at the law's entry, and rows over it ===== -/
abbrev oc_cl : List vw_C := [(RX1, TX1, 4), (RX2, TX2, 5), (RX3, TX3, 12), (RX4, TX4, 27), (RJ2, TJ2, 3), (RX6, TX6, 1), (RX7, TX7, 1), (RX9, TX9, 1), (RX10, TX10, 2), (RX11, TX11, 2), (RX12, TX12, 2), (RX13, TX13, 3), (RX14, TX14, 3), (RX15, TX15, 3)]
abbrev oc_ty (d : Nat → ClassId) : List (ClassId × FieldType) := [(d 0, .int), (d 1, .boolean), (d 2, .char), (d 3, .long), (d 4, .object "java/lang/Object")]
def oc_G (l : Launch) (s0 : State) (b0 : Addr) (D : va_G) (d : Nat → ClassId) : Prop := l.stackTraces = false ∧ (∀ w ∈ lw_tbl, w.before #[Value.ref b0] s0 = true) ∧ (Jvm.Cond.and given_1 narrow_1).before #[Value.ref b0] s0 = true ∧ va_K D oc_cl (oc_ty d) s0
section OCG
variable {l : Launch} {s0 : State} {b0 : Addr} {D : va_G} {d : Nat → ClassId} {s : State} {args : Array Value}
theorem oc_hts (G : oc_G l s0 b0 D d) (hok : oc_Ok s0 s) : ∀ w ∈ lw_all, w.before args s = true := fun w h => word_at hok.1 (good_of_word (List.mem_filter.mp h).2) (G.2.1 w (lw_all_tbl h))
theorem oc_K (G : oc_G l s0 b0 D d) (hok : oc_Ok s0 s) : va_K D oc_cl (oc_ty d) s := va_K.moved hok.1.alike G.2.2.2
/-- words that don't ride in lw_all, out of the start -/
theorem oc_wF (G : oc_G l s0 b0 D d) (hok : oc_Ok s0 s) {a : String} {i : Nat} {b n t h : String} (hw : Cond.fieldLinkNest a i b n t h ∈ lw_tbl) : (Cond.fieldLinkNest a i b n t h).before args s = true := va_Nw.use rfl (va_Nw.warmF hok.1 (va_Nw.of rfl (G.2.1 _ hw)))
theorem oc_wM (G : oc_G l s0 b0 D d) (hok : oc_Ok s0 s) {a : String} {i : Nat} {x : MethodName} {h : String} (hw : Cond.methodLinkNest a i x h ∈ lw_tbl) : (Cond.methodLinkNest a i x h).before args s = true := va_Nw.use rfl (va_Nw.warmM hok.1 (va_Nw.of rfl (G.2.1 _ hw)))
theorem oc_wC (G : oc_G l s0 b0 D d) (hok : oc_Ok s0 s) {a b : String} (hw : Cond.castable a b ∈ lw_tbl) : va_Nw (.castable a b) s := va_Nw.warmC hok.1 (va_Nw.of rfl (G.2.1 _ hw))
theorem oc_wD (G : oc_G l s0 b0 D d) (hok : oc_Ok s0 s) {x : MethodName} (hw : Cond.declares x ∈ lw_tbl) : va_Nw (.declares x) s := va_Nw.warmD hok.1 (va_Nw.of rfl (G.2.1 _ hw))
theorem oc_wA (G : oc_G l s0 b0 D d) (hok : oc_Ok s0 s) {C : String} (hw : Cond.arrayOver (.object C) ∈ lw_tbl) : va_AO C s := va_AO.moved hok.1.alike (va_AO.of (G.2.1 _ hw))
theorem oc_flat (G : oc_G l s0 b0 D d) {w : Cond} (hw : w ∈ flatC (Jvm.Cond.and given_1 narrow_1)) : w.before #[Value.ref b0] s0 = true := flat_of_before _ G.2.2.1 _ hw
/-- not castable, out of the start -/
theorem oc_nc (G : oc_G l s0 b0 D d) (hok : oc_Ok s0 s) {a b : String} (hw : Cond.not (.castable a b) ∈ flatC (Jvm.Cond.and given_1 narrow_1)) : va_Nc a b s := va_Nc.moved hok.1.alike (va_Nc.of (oc_flat G hw))
/-- a contract out of a walk from the method's first instruction -/
theorem oc_start (G : oc_G l s0 b0 D d) {y : MethodName} {cc : ByteArray} {L : Nat} {ret : Option FieldType} {rm : Room} {As : List Value} {H0 : Heap} {A : Nat → Prop} {Post : Outcome → Heap → Nat → Nat → Prop} (hc : Cond.code y cc L ret ∈ lw_all) (hL : (lg_sl As).length ≤ L)
    (body : ∀ (p : Program) (e : Env) (s : State) (m : MethodId) (below : List Frame) (meth : Method) (c : Code) (ls : Array Slot), p.tables.exec = Jvm.exec → oc_Ok s0 s → c.code = cc → c.maxLocals = L → meth.sig.returnType = ret → meth.locks = false → c.exceptionTable.toList = [] → s.vm.findClass y.cls = some m.cls → (∀ w ∈ lw_all, w.before As.toArray s = true) → va_K D oc_cl (oc_ty d) s → meth.name = y.name → s.heap = H0 → lv_has ls L (lv_args 0 As) →
      W p l e rm s m As.toArray below meth c H0 [] 0 0 (oc_Q A below s Post) (F0 m 0 ls [])) : oc_C l s0 y rm As H0 A Post := by
  intro p e s m below meth c hx hok hn hm hcd hlk hh
  have hts : ∀ w ∈ lw_all, w.before As.toArray s = true := oc_hts G hok
  obtain ⟨mth', c', h1, h2, h3, h4, h5, h6, h7, -⟩ := Cond.code_spec hn (hts _ hc)
  cases hm.symm.trans h1
  cases hcd.symm.trans h2
  rw [h4, lg_entry_eq]
  refine body p e s m below meth c _ hx hok h3 h4 h5 hlk ?_ (findClass_of_methodNamed hn) hts (oc_K G hok) (name_of_methodNamed hn hm).1 hh (lv_entry As hL)
  simpa using h7
theorem oc_startW (G : oc_G l s0 b0 D d) {y : MethodName} {cc : ByteArray} {L : Nat} {ret : Option FieldType} {hs : List (Nat × Nat × Nat × Nat)} {rm : Room} {As : List Value} {H0 : Heap} {A : Nat → Prop} {Post : Outcome → Heap → Nat → Nat → Prop} (hc : Cond.codeWith y cc L ret hs ∈ lw_all) (hL : (lg_sl As).length ≤ L)
    (body : ∀ (p : Program) (e : Env) (s : State) (m : MethodId) (below : List Frame) (meth : Method) (c : Code) (ls : Array Slot), p.tables.exec = Jvm.exec → oc_Ok s0 s → c.code = cc → c.maxLocals = L → meth.sig.returnType = ret → meth.locks = false → c.exceptionTable.toList = tableOf hs → s.vm.findClass y.cls = some m.cls → (∀ w ∈ lw_all, w.before As.toArray s = true) → va_K D oc_cl (oc_ty d) s → meth.name = y.name → s.heap = H0 → lv_has ls L (lv_args 0 As) →
      W p l e rm s m As.toArray below meth c H0 [] 0 0 (oc_Q A below s Post) (F0 m 0 ls [])) : oc_C l s0 y rm As H0 A Post := by
  intro p e s m below meth c hx hok hn hm hcd hlk hh
  have hts : ∀ w ∈ lw_all, w.before As.toArray s = true := oc_hts G hok
  obtain ⟨mk', mth', c', h0, h1, h2, h3, h4, h7, h5, h6, -⟩ := Cond.codeWith_spec (hts _ hc)
  cases hn.symm.trans h0
  cases hm.symm.trans h1
  cases hcd.symm.trans h2
  rw [h4, lg_entry_eq]
  refine body p e s m below meth c _ hx hok h3 h4 h5 hlk ?_ (findClass_of_methodNamed hn) hts (oc_K G hok) (name_of_methodNamed hn hm).1 hh (lv_entry As hL)
  rw [← h7, table_eq]
end OCG
/-- a boolean as the machine has it -/
def oc_b (b : Bool) : Int32 := if b then 1 else 0
theorem oc_b0 {b : Bool} : oc_b b = 0 ↔ b = false := by cases b <;> decide
theorem oc_b1 {b : Bool} : oc_b b = 1 ↔ b = true := by cases b <;> decide
theorem oc_bn (b : Bool) : narrow .boolean (.int (oc_b b)) = .int (oc_b b) := by cases b <;> rfl
theorem oc_bnar (b : Bool) : vp_nar .boolean (oc_b b) = oc_b b := by cases b <;> rfl
theorem oc_bt : oc_b true = 1 := rfl
theorem oc_bf : oc_b false = 0 := rfl
section OCR
variable {p : Program} {l : Launch} {e : Env} {R : Room} {s : State} {m : MethodId} {args : Array Value} {below : List Frame} {meth : Method} {c : Code} {H : Heap} {locs : List Loc} {cells slots : Nat} {Q : State → Prop}
variable {cc : ByteArray} {pc : Nat} {ls : Array Slot} {rest : List Value} {D : va_G} {cl : List vw_C} {A : Nat → Prop} {a : Nat} {tys : List (ClassId × FieldType)} {ws : va_W} {H0 : Heap}
theorem oc_clsEq {d1 d2 : ClassId} {ty : FieldType} (h1 : va_RA s d1 ty) (h2 : va_RA s d2 ty) : d1 = d2 := by
  cases ty with
  | object C =>
    obtain ⟨_, _, _, _, _, a1⟩ := h1
    obtain ⟨_, _, _, _, _, a2⟩ := h2
    exact Option.some.inj (a1.symm.trans a2)
  | _ => exact Option.some.inj (Eq.trans (Eq.symm (show s.vm.findClass _ = some d1 from h1)) (show s.vm.findClass _ = some d2 from h2))
/-- newarray; the class is the one that is known -/
theorem oc_newa (hx : p.tables.exec = Jvm.exec) (hb : c.code = cc) {atype : ArrayType} (harr : (Cond.arrayClass (newarray.typeOf atype)).before args s = true) {ty : FieldType} (hty : newarray.typeOf atype = ty) (hK : va_K D cl tys s) (t0 : Nat) {cA : ClassId} (ht : tys[t0]? = some (cA, ty)) (hP : va_P D cl ws H) (hD : va_D A ws) (hS : va_S A H0 H locs) (hA : ∀ q, H0.size ≤ q → A q)
    {n : Int32} {N' : Nat} {a0 : vp_A} (ha : ∀ cA : ClassId, vp_cell cA a0 = arrV cA N' (fun _ => defaultValue ty)) (hn : ¬ n < 0) (hN : n.toNatClampNeg = N') (hbytes : N' * componentBytes ty ≤ 536870912) (hcells : cells + 1 ≤ R.cells) (hslots : slots + N' ≤ R.slots) (hdg : decode cc pc = .ok (.newarray atype, 2))
    (kk : ∀ (q : Nat) (H1 : Heap), va_P D cl (ws ++ [(q, .inl (cA, a0))]) H1 → va_D A (ws ++ [(q, .inl (cA, a0))]) → va_S A H0 H1 locs →
      W p l e R s m args below meth c H1 locs (cells + 1) (slots + N') Q (F0 m (pc + 2) ls (.ref q :: rest))) : W p l e R s m args below meth c H locs cells slots Q (F0 m pc ls (.int n :: rest)) := by
  refine va_newa hx hb harr hty hK hP hD hS hA ha hn hN hbytes hcells hslots hdg (fun q cA' H1 hK1 hP1 hD1 hS1 => ?_)
  have h1 := (hK1.2 tys.length (cA', ty) (by rw [List.getElem?_append_right (Nat.le_refl _), Nat.sub_self]; rfl)).2
  have h2 := (hK.2 t0 _ ht).2
  have h3 : cA' = cA := oc_clsEq h1 h2
  subst h3
  exact kk q H1 hP1 hD1 hS1
theorem oc_newq (hx : p.tables.exec = Jvm.exec) (hb : c.code = cc) {own C : String} {index : Nat} (hown : s.vm.findClass own = some m.cls) (hclink : (Cond.classLink own index C).before args s = true) (hover : va_AO C s) (hK : va_K D cl tys s) (t0 : Nat) {cA : ClassId} (ht : tys[t0]? = some (cA, .object C)) (hP : va_P D cl ws H) (hD : va_D A ws) (hS : va_S A H0 H locs) (hA : ∀ q, H0.size ≤ q → A q)
    {n : Int32} {N' : Nat} (hn : ¬ n < 0) (hN : n.toNatClampNeg = N') (hbytes : N' * 4 ≤ 536870912) (hcells : cells + 1 ≤ R.cells) (hslots : slots + N' ≤ R.slots) (hdg : decode cc pc = .ok (.anewarray index, 3))
    (kk : ∀ (q : Nat) (H1 : Heap), va_P D cl (ws ++ [(q, .inl (cA, N', .inr (.inr (.inr (.inr (fun _ => none))))))]) H1 → va_D A (ws ++ [(q, .inl (cA, N', .inr (.inr (.inr (.inr (fun _ => none))))))]) → va_S A H0 H1 locs →
      W p l e R s m args below meth c H1 locs (cells + 1) (slots + N') Q (F0 m (pc + 3) ls (.ref q :: rest))) : W p l e R s m args below meth c H locs cells slots Q (F0 m pc ls (.int n :: rest)) := by
  refine va_newq hx hb hown hclink hover hK hP hD hS hA hn hN hbytes hcells hslots hdg (fun q cA' H1 hK1 hP1 hD1 hS1 => ?_)
  have h1 := (hK1.2 tys.length (cA', .object C) (by rw [List.getElem?_append_right (Nat.le_refl _), Nat.sub_self]; rfl)).2
  have h2 := (hK.2 t0 _ ht).2
  have h3 : cA' = cA := oc_clsEq h1 h2
  subst h3
  exact kk q H1 hP1 hD1 hS1
/-- new, and what it leaves as it was -/
theorem oc_new (hx : p.tables.exec = Jvm.exec) (hb : c.code = cc) {own C : String} {T : u_T} {N ci index : Nat} {Ts : List Cond} (hts : ∀ w ∈ Ts, w.before args s = true) (hin : ∀ w ∈ u_ws C T N, w ∈ Ts) (ty : Nat → FieldType) (hty : ∀ k, k < N → parseFieldDescriptor (T k).2.2.1 = some (ty k)) (hown : s.vm.findClass own = some m.cls) (hcl : (Cond.classLink own index C).before args s = true) (hinst : (Cond.instantiable C N).before args s = true) (hini : (Cond.initialized C).before args s = true)
    (hK : va_K D cl tys s) (hP : va_P D cl ws H) (hD : va_D A ws) (hS : va_S A H0 H locs) (hA : ∀ q, H0.size ≤ q → A q) (hc : cl[ci]? = some (C, T, N)) {fs : List Value} (hfs : ∀ j, j < N → defaultValue (ty j) = vp_V fs j) (hcells : cells + 1 ≤ R.cells) (hslots : slots + N ≤ R.slots) (hdg : decode cc pc = .ok (.new index, 3))
    (kk : ∀ (q : Nat) (H1 : Heap), q = H.size → H1.size = H.size + 1 → (∀ x, x < H.size → H1[x]? = H[x]?) → va_P D cl (ws ++ [(q, .inr (ci, fs))]) H1 → va_D A (ws ++ [(q, .inr (ci, fs))]) → va_S A H0 H1 locs →
      W p l e R s m args below meth c H1 locs (cells + 1) (slots + N) Q (F0 m (pc + 3) ls (.ref q :: rest))) : W p l e R s m args below meth c H locs cells slots Q (F0 m pc ls rest) := by
  have hKn := hK.1 ci _ hc
  refine W.newcK hx hb hown hcl hinst hini rfl hdg hcells hslots hKn.2.1 rfl fun H1 kC hkC e1 z1 o1 => ?_
  have hk : ∀ (k : Nat) (x : Nat × va_E), ws[k]? = some x → H1[x.1]? = H[x.1]? := fun k x hx => o1 x.1 ((hP k x hx).lt)
  refine kk H.size H1 rfl z1 o1 ((hP.kept hk).app (fun k x hx => ?_)) (hD.push hP rfl (hA _ hS.1)) ⟨Nat.le_trans hS.1 (by omega), fun x h1 h2 => (o1 x (Nat.lt_of_lt_of_le h1 hS.1)).trans (hS.2.1 x h1 h2), hS.2.2⟩
  have hz : k < 1 := (List.getElem?_eq_some_iff.mp hx).1
  rw [show k = 0 by omega] at hx
  cases hx
  exact ⟨_, hc, (u_born ty hts hin hKn hkC e1 hty).to hfs⟩
/-- putfield, and what it leaves as it was -/
theorem oc_put (hx : p.tables.exec = Jvm.exec) (hb : c.code = cc) {own ref C : String} {T : u_T} {N ci index : Nat} {Ts : List Cond} (hts : ∀ w ∈ Ts, w.before args s = true) (hin : ∀ w ∈ u_ws C T N, w ∈ Ts) (ty0 : Nat → FieldType) (hty : ∀ k, k < N → parseFieldDescriptor (T k).2.2.1 = some (ty0 k)) (hnm : ∀ a, a < N → ∀ b, b < N → a ≠ b → (T a).2.1 ≠ (T b).2.1) (hown : s.vm.findClass own = some m.cls) (hK : va_K D cl tys s) (hP : va_P D cl ws H) (hD : va_D A ws) (hS0 : va_S A H0 H locs) (q0 : Nat) {fs : List Value} (he : ws[q0]? = some (a, .inr (ci, fs))) (hc : cl[ci]? = some (C, T, N)) (k : Nat) (hk : k < N) (hlink : (Cond.fieldLink own index ref (T k).2.1 (T k).2.2.1).before args s = true) (hsame : ∀ x, s.fieldFound? (T k).1 (T k).2.1 (T k).2.2.1 = some x → s.fieldFound? ref (T k).2.1 (T k).2.2.1 = some x) (hfin : (T k).2.2.2 = false) {ty : FieldType} {v : Value} (hd : parseFieldDescriptor (T k).2.2.1 = some ty) (hn : narrow ty v = v) (hfit : fits ty v = true) (hl : k < fs.length)
    (hdg : decode cc pc = .ok (.putfield index, 3)) (kk : ∀ (H1 : Heap) (locs1 : List Loc), H1.size = H.size → (∀ q, q ≠ a → H1[q]? = H[q]?) → va_P D cl (ws.set q0 (a, .inr (ci, fs.set k v))) H1 → va_D A (ws.set q0 (a, .inr (ci, fs.set k v))) → va_S A H0 H1 locs1 → W p l e R s m args below meth c H1 locs1 cells slots Q (F0 m (pc + 3) ls rest)) : W p l e R s m args below meth c H locs cells slots Q (F0 m pc ls (v :: .ref a :: rest)) := by
  have hap := va_apart (own := own) hts hin ty0 hty hnm hK hc
  obtain ⟨r, h1, cell, q1, q2, q3, q4⟩ := hP q0 _ he
  have hr : r = (C, T, N) := Option.some.inj (h1.symm.trans hc)
  subst hr
  obtain ⟨hS, hfc, kC, hkC, hkind⟩ := hK.1 ci _ hc
  obtain ⟨cf, kf, fi, f, hi, hsl⟩ := hS k hk
  have hlay := hts _ (hin _ (u_in_lay hk))
  unfold u_lay at hlay
  rw [if_neg (by rw [hfin]; decide)] at hlay
  have hst := (u_facts hfc hkC (u_lays hts hin hk) hi).1
  have h6 := u_store hfc hkC hkind hlay hi hd hn hfit
  refine W.putK hx hb (f := f) ⟨hown, hlink, ⟨_, _, _, hsame _ hi⟩, hst⟩ (by rw [q2]; exact h6) q1 q3 (by rw [hsl]; exact k2_hasslot (q4 k hk)) rfl rfl hdg fun H' e1 e2 e3 => ?_
  rw [hsl] at e1 ⊢
  exact kk H' _ e2 e3 (hP.set hD he ⟨_, hc, t_OB.to (V := updV (vp_V fs) k v) ⟨_, e1, q2, q3, t_set q4 hap hk v⟩ (fun j _ => vp_updV_set hl v j)⟩ e3) (hD.set he) (hS0.put e2 e3 (hD.2 q0 _ he))
end OCR
