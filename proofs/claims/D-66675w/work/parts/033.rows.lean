/-! ===== more rows ===== -/
section OCW
variable {p : Program} {l : Launch} {e : Env} {R : Room} {s : State} {m : MethodId} {args : Array Value} {below : List Frame} {meth : Method} {c : Code} {H : Heap} {locs : List Loc} {cells slots : Nat} {Q : State → Prop}
variable {cc : ByteArray} {pc : Nat} {ls : Array Slot} {rest st0 : List Value} {D : va_G} {cl : List vw_C} {A : Nat → Prop} {a : Nat} {tys : List (ClassId × FieldType)} {ws : va_W} {H0 : Heap}
theorem oc_topi {x y : Int32} (h : x = y) (k : W p l e R s m args below meth c H locs cells slots Q (F0 m pc ls (.int y :: rest))) : W p l e R s m args below meth c H locs cells slots Q (F0 m pc ls (.int x :: rest)) := h ▸ k
theorem oc_topl {x y : Int64} (h : x = y) (k : W p l e R s m args below meth c H locs cells slots Q (F0 m pc ls (.long y :: rest))) : W p l e R s m args below meth c H locs cells slots Q (F0 m pc ls (.long x :: rest)) := h ▸ k
theorem oc_callR1 {nL len : Nat} {s0 : State} {A0 : Nat → Prop} {y : MethodName} {rm : Room} {As : List Value} {v : Value} {maxL : Nat} {ig : Instr} (hx : p.tables.exec = Jvm.exec) (hb : c.code = cc) (hml : c.maxLocals = nL) (hl : ls.size = nL) (hZ : oc_Z s0 s A0 H locs)
    (hI : oc_I p l e R s m args below meth c H locs cells slots (F0 m pc ls st0) rest y As) (hM : oc_M y maxL s) (hC : oc_C l s0 y rm As H oc_N (oc_R (some v) H)) (hdg : decode cc pc = .ok (ig, len))
    (hfr : rm.frames + 1 ≤ R.frames) (hlo : (rest.map fun v => v.category).sum + (maxL + 11) + rm.locals ≤ R.locals) (hce : cells + rm.cells ≤ R.cells) (hsl : slots + rm.slots ≤ R.slots)
    (kk : W p l e R s m args below meth c H locs cells slots Q (F0 m (pc + len) ls (v :: rest))) :
    W p l e R s m args below meth c H locs cells slots Q (F0 m pc ls st0) := oc_callR hx hb hml hl hZ hI hM hC hdg hfr hlo hce hsl kk
theorem oc_ix {i : Int32} {k n : Nat} (hi : i = nI k) (hk : k < n) (hn : n < 2147483648) : vp_in i n := by rw [hi]; exact vp_in_nI hk hn
theorem oc_cl32 {i : Int32} {k n : Nat} (hi : i = nI k) (hk : k < n) (hn : n < 2147483648) : i.toNatClampNeg = k := by rw [hi]; exact nI_clamp (Nat.lt_trans hk hn)
theorem oc_iald (hx : p.tables.exec = Jvm.exec) (hb : c.code = cc) (hK : va_K D cl tys s) (hP : va_P D cl ws H) (q0 t0 : Nat) {cA : ClassId} {n : Nat} {f : Nat → Int32} (ha : ws[q0]? = some (a, .inl (cA, n, .inl f))) (ht : tys[t0]? = some (cA, .int)) {i : Int32} (k : Nat) (hi : i = nI k) (hk : k < n) (hn : n < 2147483648) (hdg : decode cc pc = .ok (.iaload, 1))
    (kk : W p l e R s m args below meth c H locs cells slots Q (F0 m (pc + 1) ls (.int (f k) :: rest))) : W p l e R s m args below meth c H locs cells slots Q (F0 m pc ls (.int i :: .ref a :: rest)) :=
  va_iald hx hb hK hP q0 t0 ha ht (oc_ix hi hk hn) hdg (by rw [oc_cl32 hi hk hn]; exact kk)
theorem oc_zald (hx : p.tables.exec = Jvm.exec) (hb : c.code = cc) (hK : va_K D cl tys s) (hP : va_P D cl ws H) (q0 t0 : Nat) {cA : ClassId} {n : Nat} {f : Nat → Int32} (ha : ws[q0]? = some (a, .inl (cA, n, .inl f))) (ht : tys[t0]? = some (cA, .boolean)) {i : Int32} (k : Nat) (hi : i = nI k) (hk : k < n) (hn : n < 2147483648) (hdg : decode cc pc = .ok (.baload, 1))
    (kk : W p l e R s m args below meth c H locs cells slots Q (F0 m (pc + 1) ls (.int (f k) :: rest))) : W p l e R s m args below meth c H locs cells slots Q (F0 m pc ls (.int i :: .ref a :: rest)) :=
  va_zald hx hb hK hP q0 t0 ha ht (oc_ix hi hk hn) hdg (by rw [oc_cl32 hi hk hn]; exact kk)
theorem oc_cald (hx : p.tables.exec = Jvm.exec) (hb : c.code = cc) (hK : va_K D cl tys s) (hP : va_P D cl ws H) (q0 t0 : Nat) {cA : ClassId} {n : Nat} {f : Nat → Int32} (ha : ws[q0]? = some (a, .inl (cA, n, .inl f))) (ht : tys[t0]? = some (cA, .char)) {i : Int32} (k : Nat) (hi : i = nI k) (hk : k < n) (hn : n < 2147483648) (hdg : decode cc pc = .ok (.caload, 1))
    (kk : W p l e R s m args below meth c H locs cells slots Q (F0 m (pc + 1) ls (.int (f k) :: rest))) : W p l e R s m args below meth c H locs cells slots Q (F0 m pc ls (.int i :: .ref a :: rest)) :=
  va_cald hx hb hK hP q0 t0 ha ht (oc_ix hi hk hn) hdg (by rw [oc_cl32 hi hk hn]; exact kk)
theorem oc_lald (hx : p.tables.exec = Jvm.exec) (hb : c.code = cc) (hK : va_K D cl tys s) (hP : va_P D cl ws H) (q0 t0 : Nat) {cA : ClassId} {n : Nat} {f : Nat → Int64} (ha : ws[q0]? = some (a, .inl (cA, n, .inr (.inl f)))) (ht : tys[t0]? = some (cA, .long)) {i : Int32} (k : Nat) (hi : i = nI k) (hk : k < n) (hn : n < 2147483648) (hdg : decode cc pc = .ok (.laload, 1))
    (kk : W p l e R s m args below meth c H locs cells slots Q (F0 m (pc + 1) ls (.long (f k) :: rest))) : W p l e R s m args below meth c H locs cells slots Q (F0 m pc ls (.int i :: .ref a :: rest)) :=
  va_lald hx hb hK hP q0 t0 ha ht (oc_ix hi hk hn) hdg (by rw [oc_cl32 hi hk hn]; exact kk)
theorem oc_iast (hx : p.tables.exec = Jvm.exec) (hb : c.code = cc) (hK : va_K D cl tys s) (hP : va_P D cl ws H) (hD : va_D A ws) (hS : va_S A H0 H locs) (q0 t0 : Nat) {cA : ClassId} {n : Nat} {f : Nat → Int32} (ha : ws[q0]? = some (a, .inl (cA, n, .inl f))) (ht : tys[t0]? = some (cA, .int)) {i : Int32} {x : Int32} (k : Nat) (hi : i = nI k) (hk : k < n) (hn : n < 2147483648) (hdg : decode cc pc = .ok (.iastore, 1))
    (kk : ∀ (H1 : Heap) (locs1 : List Loc), va_P D cl (ws.set q0 (a, .inl (cA, n, .inl (upd f k x)))) H1 → va_D A (ws.set q0 (a, .inl (cA, n, .inl (upd f k x)))) → va_S A H0 H1 locs1 → W p l e R s m args below meth c H1 locs1 cells slots Q (F0 m (pc + 1) ls rest)) : W p l e R s m args below meth c H locs cells slots Q (F0 m pc ls (.int x :: .int i :: .ref a :: rest)) :=
  va_iast hx hb hK hP hD hS q0 t0 ha ht (oc_ix hi hk hn) hdg (by rw [oc_cl32 hi hk hn]; exact kk)
theorem oc_zast (hx : p.tables.exec = Jvm.exec) (hb : c.code = cc) (hK : va_K D cl tys s) (hP : va_P D cl ws H) (hD : va_D A ws) (hS : va_S A H0 H locs) (q0 t0 : Nat) {cA : ClassId} {n : Nat} {f : Nat → Int32} (ha : ws[q0]? = some (a, .inl (cA, n, .inl f))) (ht : tys[t0]? = some (cA, .boolean)) {i : Int32} {x v : Int32} (k : Nat) (hi : i = nI k) (hk : k < n) (hn : n < 2147483648) (hv : vp_nar .boolean x = v) (hdg : decode cc pc = .ok (.bastore, 1))
    (kk : ∀ (H1 : Heap) (locs1 : List Loc), va_P D cl (ws.set q0 (a, .inl (cA, n, .inl (upd f k v)))) H1 → va_D A (ws.set q0 (a, .inl (cA, n, .inl (upd f k v)))) → va_S A H0 H1 locs1 → W p l e R s m args below meth c H1 locs1 cells slots Q (F0 m (pc + 1) ls rest)) : W p l e R s m args below meth c H locs cells slots Q (F0 m pc ls (.int x :: .int i :: .ref a :: rest)) :=
  va_zast hx hb hK hP hD hS q0 t0 ha ht (oc_ix hi hk hn) hdg (by rw [oc_cl32 hi hk hn, hv]; exact kk)
theorem oc_cast (hx : p.tables.exec = Jvm.exec) (hb : c.code = cc) (hK : va_K D cl tys s) (hP : va_P D cl ws H) (hD : va_D A ws) (hS : va_S A H0 H locs) (q0 t0 : Nat) {cA : ClassId} {n : Nat} {f : Nat → Int32} (ha : ws[q0]? = some (a, .inl (cA, n, .inl f))) (ht : tys[t0]? = some (cA, .char)) {i : Int32} {x v : Int32} (k : Nat) (hi : i = nI k) (hk : k < n) (hn : n < 2147483648) (hv : vp_nar .char x = v) (hdg : decode cc pc = .ok (.castore, 1))
    (kk : ∀ (H1 : Heap) (locs1 : List Loc), va_P D cl (ws.set q0 (a, .inl (cA, n, .inl (upd f k v)))) H1 → va_D A (ws.set q0 (a, .inl (cA, n, .inl (upd f k v)))) → va_S A H0 H1 locs1 → W p l e R s m args below meth c H1 locs1 cells slots Q (F0 m (pc + 1) ls rest)) : W p l e R s m args below meth c H locs cells slots Q (F0 m pc ls (.int x :: .int i :: .ref a :: rest)) :=
  va_cast hx hb hK hP hD hS q0 t0 ha ht (oc_ix hi hk hn) hdg (by rw [oc_cl32 hi hk hn, hv]; exact kk)
theorem oc_last (hx : p.tables.exec = Jvm.exec) (hb : c.code = cc) (hK : va_K D cl tys s) (hP : va_P D cl ws H) (hD : va_D A ws) (hS : va_S A H0 H locs) (q0 t0 : Nat) {cA : ClassId} {n : Nat} {f : Nat → Int64} (ha : ws[q0]? = some (a, .inl (cA, n, .inr (.inl f)))) (ht : tys[t0]? = some (cA, .long)) {i : Int32} {x : Int64} (k : Nat) (hi : i = nI k) (hk : k < n) (hn : n < 2147483648) (hdg : decode cc pc = .ok (.lastore, 1))
    (kk : ∀ (H1 : Heap) (locs1 : List Loc), va_P D cl (ws.set q0 (a, .inl (cA, n, .inr (.inl (vp_updL f k x))))) H1 → va_D A (ws.set q0 (a, .inl (cA, n, .inr (.inl (vp_updL f k x))))) → va_S A H0 H1 locs1 → W p l e R s m args below meth c H1 locs1 cells slots Q (F0 m (pc + 1) ls rest)) : W p l e R s m args below meth c H locs cells slots Q (F0 m pc ls (.long x :: .int i :: .ref a :: rest)) :=
  va_last hx hb hK hP hD hS q0 t0 ha ht (oc_ix hi hk hn) hdg (by rw [oc_cl32 hi hk hn]; exact kk)
end OCW
theorem oc_bfit (b : Bool) : fits .boolean (.int (oc_b b)) = true := by cases b <;> rfl
theorem oc_Ri {H : Heap} {a b : Int32} (h : a = b) : oc_R (some (.int b)) H (.returned (some (.int a))) H 0 0 := by subst h; exact ⟨rfl, rfl, rfl, rfl⟩
theorem oc_Rl {H : Heap} {a b : Int64} (h : a = b) : oc_R (some (.long b)) H (.returned (some (.long a))) H 0 0 := by subst h; exact ⟨rfl, rfl, rfl, rfl⟩
theorem oc_Rv {H : Heap} {a b : Value} (h : a = b) : oc_R (some b) H (.returned (some a)) H 0 0 := by subst h; exact ⟨rfl, rfl, rfl, rfl⟩
theorem oc_Z0 {s0 s : State} (hok : oc_Ok s0 s) : oc_Z s0 s oc_N s.heap [] := ⟨hok, va_S.rf, fun _ h => h.elim⟩
abbrev oc_rm (f n k t : Nat) : Room := { frames := f, cells := k, slots := t, locals := n }
section OCV
variable {p : Program} {l : Launch} {e : Env} {R : Room} {s : State} {m : MethodId} {args : Array Value} {below : List Frame} {meth : Method} {c : Code} {H : Heap} {locs : List Loc} {cells slots : Nat} {Q : State → Prop}
/-- go by a frame further on -/
theorem oc_cut {g g2 : JFrame} (k : W p l e R s m args below meth c H locs cells slots Q g2) (h : W p l e R s m args below meth c H locs cells slots Q g2 → W p l e R s m args below meth c H locs cells slots Q g) : W p l e R s m args below meth c H locs cells slots Q g := h k
end OCV
/-! numbers: comparisons of small ones -/
theorem oc_le {x y : Int32} {a b : Nat} (hx : x = nI a) (hy : y = nI b) (ha : a < 2147483648) (hb : b < 2147483648) : x ≤ y ↔ a ≤ b := by subst hx; subst hy; exact nI_leI ha hb
theorem oc_lt {x y : Int32} {a b : Nat} (hx : x = nI a) (hy : y = nI b) (ha : a < 2147483648) (hb : b < 2147483648) : x < y ↔ a < b := by subst hx; subst hy; exact nI_ltI ha hb
theorem oc_eq {x y : Int32} {a b : Nat} (hx : x = nI a) (hy : y = nI b) (ha : a < 2147483648) (hb : b < 2147483648) : x = y ↔ a = b := by subst hx; subst hy; exact nI_eq ha hb
