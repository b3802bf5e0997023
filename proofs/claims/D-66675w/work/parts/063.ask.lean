/-! ===== every node may be asked ===== -/
section OAS
variable {l : Launch} {s0 : State} {b0 : Addr} {D : va_G} {d : Nat → ClassId} {E0 : Nat} {f : Nat → Int32} {b : Nat} {nm : Nat → Int32} {B : Nat → Prop} {u : Nat → Nat} {I : Nat → Int32} {F : Nat → Nat → Int32} {L : Nat → Int64} {N : Nat} {cd : Int32} {pr : Int64} {hv : Nat → Bool}
/-- a factor in the heap, all its cells there -/
def od_Nd (D : va_G) (d : Nat → ClassId) (E0 : Nat) (f : Nat → Int32) (b : Nat) (nm : Nat → Int32) (B : Nat → Prop) (e : Nat) (H : Heap) (y : Nat) (S : od_Sm) : Prop := (∀ z, B z → z < Array.size H) ∧ od_Fa D d E0 f b nm B H e y S
def od_Nt (D : va_G) (d : Nat → ClassId) (E0 : Nat) (f : Nat → Int32) (b : Nat) (nm : Nat → Int32) (B : Nat → Prop) (e : Nat) (H : Heap) (y : Nat) (S : od_Sm) : Prop := (∀ z, B z → z < Array.size H) ∧ od_Tm D d E0 B H (od_Fa D d E0 f b nm B H e) y S
def od_Nr (D : va_G) (d : Nat → ClassId) (E0 : Nat) (f : Nat → Int32) (b : Nat) (nm : Nat → Int32) (B : Nat → Prop) (e : Nat) (H : Heap) (y : Nat) (S : od_Sm) : Prop := (∀ z, B z → z < Array.size H) ∧ od_Ru D d E0 B H (od_Fa D d E0 f b nm B H e) y S
theorem od_Bk {H H1 : Heap} (h : ∀ z, B z → z < Array.size H) (hk : ∀ z, B z → H1[z]? = H[z]?) : ∀ z, B z → z < Array.size H1 := by
  intro z hz
  have h1 := h z hz
  have h2 := hk z hz
  rw [Array.getElem?_eq_getElem h1] at h2
  exact (Array.getElem?_eq_some_iff.mp h2).1
theorem od_nd2 {k : Nat} {t : Nat → Int32} (hu : u 3 ≠ u 5) (sz : Nat) : va_D (va_A (od_tW d u I cd pr k t) sz) (od_tW d u I cd pr k t) :=
  oc_Dc (va_A.in (k := 0) rfl) (oc_Dc (va_A.in (k := 1) rfl) oc_D0 (fun x hx => absurd hx List.not_mem_nil)) (fun x hx => by simp only [List.mem_cons, List.not_mem_nil, or_false] at hx; subst hx; exact hu)
theorem od_n02 {k : Nat} {t : Nat → Int32} (h3 : s0.heap.size ≤ u 3) (h5 : s0.heap.size ≤ u 5) : ∀ z ∈ od_tW d u I cd pr k t, s0.heap.size ≤ z.1 := by
  intro z hz
  simp only [List.mem_cons, List.not_mem_nil, or_false] at hz
  rcases hz with rfl | rfl
  · exact h3
  · exact h5
theorem od_d2 {k a : Nat} {t : Nat → Int32} {e : va_E} (h : a ≠ u 3 ∧ a ≠ u 5) : ∀ z ∈ ([(a, e)] : va_W), ∀ y ∈ od_tW d u I cd pr k t, z.1 ≠ y.1 := by
  intro z hz y hy
  simp only [List.mem_cons, List.not_mem_nil, or_false] at hz hy
  subst hz
  rcases hy with rfl | rfl
  · exact h.1
  · exact h.2
set_option maxHeartbeats 1000000 in
theorem od_askL (G : oc_G l s0 b0 D d) (hvq : od_hv f nm I F L N cd pr hv) (hu : u 3 ≠ u 5) (h3 : s0.heap.size ≤ u 3) (h5 : s0.heap.size ≤ u 5) (h12 : N ≤ 12) (hsym : od_sym (F 13)) (hB3 : ∀ z, B z → z ≠ u 3 ∧ z ≠ u 5) {H : Heap} {a q k : Nat} {t : Nat → Int32} (h : od_lf D f b nm B H a q) (hCx : od_Cx D d E0 u F L N H) (hP : va_P D oc_cl (od_tW d u I cd pr k t) H) (hk : k + 1 ≤ 300) : od_Hc l s0 D d u I cd pr b hv 5 80 H a (od_leaf q) k t := by
  obtain ⟨hBa, h⟩ := h
  have hd2 := hB3 a hBa
  obtain ⟨c1, c2, c3, ar, cp, el, c4, c5, c6, hL, hpt⟩ := hCx
  have hpt2 : ∀ j, j < N → ∃ y, el j = some y ∧ va_at D oc_cl (y, .inr (12, [.int (F 8 j), .int (F 9 j), .long (L j)])) H := fun j hj => by
    obtain ⟨y, e1, -, -, e2⟩ := hpt j hj
    exact ⟨y, e1, e2⟩
  have hg : va_P D oc_cl ([(u 3, .inr (2, [.ref (u 6), .int (I 11), .int (I 12), .int (I 14), .int (I 15), .int (I 16), .int (I 17), .ref (u 4), .int cd, .long pr, .ref (u 5), .int (nI k)])), (u 4, .inl (d 1, 100, .inl (F 13)))] : va_W) H := oc_Pc (hP 0 _ rfl) (oc_P1 c3)
  obtain ⟨v1, v2, v3, v4, v5, v6⟩ := hvq q
  rcases h with ⟨hf, ha⟩ | ⟨hf, ha⟩ | ⟨hf, ha⟩ | ⟨hf, ha⟩ | ⟨hf, ha⟩ | ⟨hf, ha⟩
  · exact ⟨RX9, yX8_holds, 2, 2, 27, by simp [od_faces], by omega, by omega, fun s hok => va_recv (oc_K G hok) (oc_P1 ha) (ci := 7) (q0 := 0) rfl rfl, kX8_holds_X9 G a (nI q - nI b) (hv q) k t (by omega) hP (od_nd2 hu _) (od_n02 h3 h5) (oc_P1 ha) (od_d2 hd2) (by rw [v1 hf]; exact kX9_is G hg hL hpt2 h12 hsym a _ (oc_P1 ha))⟩
  · exact ⟨RX10, yX8_holds, 2, 5, 80, by simp [od_faces], by omega, by omega, fun s hok => va_recv (oc_K G hok) (oc_P1 ha) (ci := 8) (q0 := 0) rfl rfl, kX8_holds_X10 G a (nI q - nI b) 10000 (hv q) k t (by omega) hP (od_nd2 hu _) (od_n02 h3 h5) (oc_P1 ha) (od_d2 hd2) (by rw [v2 hf]; exact kX10_is G hg hL hpt2 h12 hsym a _ _ (oc_P1 ha) (by decide))⟩
  · exact ⟨RX10, yX8_holds, 2, 5, 80, by simp [od_faces], by omega, by omega, fun s hok => va_recv (oc_K G hok) (oc_P1 ha) (ci := 8) (q0 := 0) rfl rfl, kX8_holds_X10 G a (nI q - nI b) 100 (hv q) k t (by omega) hP (od_nd2 hu _) (od_n02 h3 h5) (oc_P1 ha) (od_d2 hd2) (by rw [v3 hf]; exact kX10_is G hg hL hpt2 h12 hsym a _ _ (oc_P1 ha) (by decide))⟩
  · exact ⟨RX10, yX8_holds, 2, 5, 80, by simp [od_faces], by omega, by omega, fun s hok => va_recv (oc_K G hok) (oc_P1 ha) (ci := 8) (q0 := 0) rfl rfl, kX8_holds_X10 G a (nI q - nI b) 1 (hv q) k t (by omega) hP (od_nd2 hu _) (od_n02 h3 h5) (oc_P1 ha) (od_d2 hd2) (by rw [v4 hf]; exact kX10_is G hg hL hpt2 h12 hsym a _ _ (oc_P1 ha) (by decide))⟩
  · exact ⟨RX11, yX8_holds, 2, 5, 78, by simp [od_faces], by omega, by omega, fun s hok => va_recv (oc_K G hok) (oc_P1 ha) (ci := 9) (q0 := 0) rfl rfl, kX8_holds_X11 G a (nI q - nI b) (nm q) (hv q) k t (by omega) hP (od_nd2 hu _) (od_n02 h3 h5) (oc_P1 ha) (od_d2 hd2) (by rw [v5 hf]; exact kX11_is G hg hL hpt2 h12 hsym a _ _ (oc_P1 ha))⟩
  · exact ⟨RX12, yX8_holds, 2, 1, 15, by simp [od_faces], by omega, by omega, fun s hok => va_recv (oc_K G hok) (oc_P1 ha) (ci := 10) (q0 := 0) rfl rfl, kX8_holds_X12 G a (nI q - nI b) (nm q) (hv q) k t (by omega) hP (od_nd2 hu _) (od_n02 h3 h5) (oc_P1 ha) (od_d2 hd2) (by rw [v6 hf]; exact kX12_is G hg a _ _ (oc_P1 ha))⟩
theorem od_askT (G : oc_G l s0 b0 D d) (hu : u 3 ≠ u 5) (h3 : s0.heap.size ≤ u 3) (h5 : s0.heap.size ≤ u 5) (hB3 : ∀ z, B z → z ≠ u 3 ∧ z ≠ u 5) (e FR LO : Nat)
    (ih : ∀ (H : Heap) (y : Nat) (S : od_Sm) (k : Nat) (t : Nat → Int32), od_Nd D d E0 f b nm B e H y S → od_Cx D d E0 u F L N H → va_P D oc_cl (od_tW d u I cd pr k t) H → k + (S hv).2.length ≤ 300 → od_Hc l s0 D d u I cd pr b hv FR LO H y S k t) :
    ∀ (H : Heap) (y : Nat) (S : od_Sm) (k : Nat) (t : Nat → Int32), od_Nt D d E0 f b nm B e H y S → od_Cx D d E0 u F L N H → va_P D oc_cl (od_tW d u I cd pr k t) H → k + (S hv).2.length ≤ 300 → od_Hc l s0 D d u I cd pr b hv (FR + 3) (LO + 60) H y S k t := by
  intro H y S k t hN hCx hP hk
  obtain ⟨hBl, ss, ⟨li, ar, cp, el, q1, q2, q3, q4, q5, q6⟩, rfl⟩ := hN
  refine ⟨RX7, yX7_holds, 3, FR + 3, LO + 60, by simp [od_faces], by omega, by omega, fun s hok => va_recv (oc_K G hok) (oc_P1 q4) (ci := 6) (q0 := 0) rfl rfl, ?_⟩
  exact kX7_holds G b hv FR LO (od_Nd D d E0 f b nm B e) B y li ar cp el ss k t hP (od_nd2 hu _) (od_n02 h3 h5) hk (by have := q5.2.1; have := q5.2.2.1; omega) hB3 hBl q1 q2 q3 q4 q5 (fun i S hi => by obtain ⟨z, z1, z2⟩ := q6 i S hi; exact ⟨z, z1, hBl, z2⟩)
    (fun H H1 y S h hk => ⟨od_Bk h.1 hk, od_Fa.kept (fun _ z => z) hk e y S h.2⟩) hCx ih
theorem od_askR (G : oc_G l s0 b0 D d) (hu : u 3 ≠ u 5) (h3 : s0.heap.size ≤ u 3) (h5 : s0.heap.size ≤ u 5) (hB3 : ∀ z, B z → z ≠ u 3 ∧ z ≠ u 5) (e FR LO : Nat)
    (ih : ∀ (H : Heap) (y : Nat) (S : od_Sm) (k : Nat) (t : Nat → Int32), od_Nt D d E0 f b nm B e H y S → od_Cx D d E0 u F L N H → va_P D oc_cl (od_tW d u I cd pr k t) H → k + (S hv).2.length ≤ 300 → od_Hc l s0 D d u I cd pr b hv FR LO H y S k t) :
    ∀ (H : Heap) (y : Nat) (S : od_Sm) (k : Nat) (t : Nat → Int32), od_Nr D d E0 f b nm B e H y S → od_Cx D d E0 u F L N H → va_P D oc_cl (od_tW d u I cd pr k t) H → k + (S hv).2.length ≤ 300 → od_Hc l s0 D d u I cd pr b hv (FR + 3) (LO + 60) H y S k t := by
  intro H y S k t hN hCx hP hk
  obtain ⟨hBl, ss, ⟨li, ar, cp, el, q1, q2, q3, q4, q5, q6⟩, rfl⟩ := hN
  refine ⟨RX6, yX6_holds, 3, FR + 3, LO + 60, by simp [od_faces], by omega, by omega, fun s hok => va_recv (oc_K G hok) (oc_P1 q4) (ci := 5) (q0 := 0) rfl rfl, ?_⟩
  exact kX6_holds G b hv FR LO (od_Nt D d E0 f b nm B e) B y li ar cp el ss k t hP (od_nd2 hu _) (od_n02 h3 h5) hk (by have := q5.2.1; have := q5.2.2.1; omega) hB3 hBl q1 q2 q3 q4 q5 (fun i S hi => by obtain ⟨z, z1, z2⟩ := q6 i S hi; exact ⟨z, z1, hBl, z2⟩)
    (fun H H1 y S h hk => ⟨od_Bk h.1 hk, h.2.kept (fun _ z => z) hk (od_Fa.kept (fun _ z => z) hk e)⟩) hCx ih
theorem od_Hc.up {FR LO FR2 LO2 : Nat} {H : Heap} {a : Nat} {S : od_Sm} {k : Nat} {t : Nat → Int32} (h : od_Hc l s0 D d u I cd pr b hv FR LO H a S k t) (h1 : FR ≤ FR2) (h2 : LO ≤ LO2) : od_Hc l s0 D d u I cd pr b hv FR2 LO2 H a S k t := by
  obtain ⟨C, y, n, fr, lo, a1, a2, a3, a4, a5⟩ := h
  exact ⟨C, y, n, fr, lo, a1, by omega, by omega, a4, a5⟩
theorem od_askF (G : oc_G l s0 b0 D d) (hvq : od_hv f nm I F L N cd pr hv) (hu : u 3 ≠ u 5) (h3 : s0.heap.size ≤ u 3) (h5 : s0.heap.size ≤ u 5) (h12 : N ≤ 12) (hsym : od_sym (F 13)) (hB3 : ∀ z, B z → z ≠ u 3 ∧ z ≠ u 5) :
    ∀ (e : Nat) (H : Heap) (y : Nat) (S : od_Sm) (k : Nat) (t : Nat → Int32), od_Nd D d E0 f b nm B e H y S → od_Cx D d E0 u F L N H → va_P D oc_cl (od_tW d u I cd pr k t) H → k + (S hv).2.length ≤ 300 → od_Hc l s0 D d u I cd pr b hv (5 + 6 * e) (80 + 120 * e) H y S k t := by
  intro e
  induction e with
  | zero =>
    intro H y S k t hN hCx hP hk
    obtain ⟨-, q, hq, rfl⟩ := hN
    exact od_askL G hvq hu h3 h5 h12 hsym hB3 hq hCx hP hk
  | succ e ih =>
    intro H y S k t hN hCx hP hk
    obtain ⟨hBl, hN⟩ := hN
    rcases hN with ⟨q, hq, rfl⟩ | hN
    · exact (od_askL G hvq hu h3 h5 h12 hsym hB3 hq hCx hP hk).up (by omega) (by omega)
    · exact (od_askR G hu h3 h5 hB3 e _ _ (od_askT G hu h3 h5 hB3 e _ _ ih) H y S k t ⟨hBl, hN⟩ hCx hP hk).up (by omega) (by omega)
/-- a row's rule may be asked -/
theorem od_askRule (G : oc_G l s0 b0 D d) (hvq : od_hv f nm I F L N cd pr hv) (hu : u 3 ≠ u 5) (h3 : s0.heap.size ≤ u 3) (h5 : s0.heap.size ≤ u 5) (h12 : N ≤ 12) (hsym : od_sym (F 13)) (hB3 : ∀ z, B z → z ≠ u 3 ∧ z ≠ u 5) {e : Nat} {H : Heap} {y : Nat} {S : od_Sm} {k : Nat} {t : Nat → Int32} (hN : od_Nr D d E0 f b nm B e H y S) (hCx : od_Cx D d E0 u F L N H) (hP : va_P D oc_cl (od_tW d u I cd pr k t) H) (hk : k + (S hv).2.length ≤ 300) : od_Hc l s0 D d u I cd pr b hv (11 + 6 * e) (200 + 120 * e) H y S k t :=
  (od_askR G hu h3 h5 hB3 e _ _ (od_askT G hu h3 h5 hB3 e _ _ (od_askF G hvq hu h3 h5 h12 hsym hB3 e)) H y S k t hN hCx hP hk).up (by omega) (by omega)
end OAS
