/-! ===== a remainder by zero ===== -/
theorem od_nine : (stringBytes (stringToUtf16 "/ by zero")).size = 9 := by decide +kernel
theorem od_cellEq {s U : State} {k n : Nat} (h : s.sameButNew ({ U with vm := s.vm } : State) [] k n) : s.heap.size ≤ U.heap.size ∧ ∀ q, q < s.heap.size → U.heap[q]? = s.heap[q]? := by
  refine ⟨h.2.1, fun q hq => ?_⟩
  obtain ⟨c2, h1, h2, h3, h4⟩ := h.2.2.2.2.2 q _ (Array.getElem?_eq_getElem hq)
  have h1 : U.heap[q]? = some c2 := h1
  rw [h1, Array.getElem?_eq_getElem hq]
  congr 1
  rw [h2]
  have e : c2.slots = s.heap[q].slots := by
    apply Array.ext_getElem?
    intro i
    exact h4 i List.not_mem_nil
  rw [e]
section OAR
variable {p : Program} {l : Launch} {e : Env} {R : Room} {s : State} {m : MethodId} {args : Array Value} {below : List Frame} {meth : Method} {c : Code} {A : Nat → Prop} {Post : Outcome → Heap → Nat → Nat → Prop}
variable {cc : ByteArray} {pc nL : Nat} {ls : Array Slot} {rest : List Value} {s0 : State} {b0 : Addr} {D : va_G} {d : Nat → ClassId}
set_option maxHeartbeats 1000000 in
theorem oc_lrem0 {a : Int64} (G : oc_G l s0 b0 D d) (hok : oc_Ok s0 s) (hx : p.tables.exec = Jvm.exec) (hb : c.code = cc) (hml : c.maxLocals = nL) (hl : ls.size = nL) (hlocks : meth.locks = false) (htab : c.exceptionTable.toList = []) (hdg : decode cc pc = .ok (.lrem, 1)) (hfr : 7 ≤ R.frames) (hlo : (rest.map fun v => v.category).sum + 10240 ≤ R.locals) (hce : 3 ≤ R.cells) (hsl : 19 ≤ R.slots)
    (hpost : ∀ (H1 : Heap) (n : Nat), n ≤ 19 → s.heap.size ≤ H1.size → (∀ q, q < s.heap.size → H1[q]? = s.heap[q]?) → oc_Ex s0 RJ13 H1 (s.heap.size + 2) → Post (.threw (s.heap.size + 2)) H1 3 n) :
    W p l e R s m args below meth c s.heap [] 0 0 (oc_Q A below s Post) (F0 m pc ls (.long 0 :: .long a :: rest)) := by
  intro T hT X
  have htr : e.platform.stackTraces = false := by rw [X.admits.platform]; exact G.1
  have hw : ∀ w ∈ Bundle.messageArmAtoms RJ13 ["java/lang/RuntimeException", "java/lang/Exception"], w.before args s = true := by
    intro w hw
    by_cases h1 : w = .isRef (.static Bundle.tN "UNASSIGNED_STACK" Bundle.steD)
    · rw [h1]; exact oc_isref G hok q257 (by decide +kernel)
    · by_cases h2 : w = .isRef (.static Bundle.tN "SUPPRESSED_SENTINEL" Bundle.listD)
      · rw [h2]; exact oc_isref G hok q259 (by decide +kernel)
      · refine oc_ws G hok ((Bundle.messageArmAtoms RJ13 ["java/lang/RuntimeException", "java/lang/Exception"]).filter (fun w => decide (w ≠ .isRef (.static Bundle.tN "UNASSIGNED_STACK" Bundle.steD)) && decide (w ≠ .isRef (.static Bundle.tN "SUPPRESSED_SENTINEL" Bundle.listD)))) [31, 252, 261, 266, 269, 271, 253, 254, 61, 62, 255, 260, 267, 284, 242, 285, 244, 286, 246, 256, 257, 258, 259, 248, 730, 731, 283, 248, 721, 722, 723, 724, 234, 724, 725, 726, 727, 236, 727, 728, 729, 730, 238, 53, 741, 742, 743, 745, 744, 746, 52, 720, 739, 740, 263, 734, 735, 737, 733, 251, 250, 732] (by decide +kernel) (by decide +kernel) w (List.mem_filter.mpr ⟨hw, by simp [h1, h2]⟩)
  obtain ⟨U, hsteps, hrun, hend, hW, ⟨n, hn, hsame⟩, cb, cs, cell, -, -, hcell, -, -, KE⟩ := X.messageArmCells hx htr (cls := RJ13) (names := ["java/lang/RuntimeException", "java/lang/Exception"]) (text := "/ by zero") (by decide +kernel) (by decide +kernel) (by decide) (by decide) hw (fun x hx => by cases hx) (by decide) (by rw [od_nine, X.admits.platform]; show ¬ 9 > 2147483645; decide) (by rw [od_nine, X.admits.platform]; show ¬ 9 * componentBytes .byte > 536870912; decide)
    (g := F0 m pc ls rest) rfl (by show ls.size = _; rw [hl, hml]) rfl rfl (by rw [htab]; intro x hx; cases hx) (by show 2 + 4 < _; omega) (by show 2 * 0 + (rest.map fun v => v.category).sum + 10240 ≤ R.locals; omega) (by decide) (by omega) (by rw [od_nine]; omega) (hlocks := hlocks)
  obtain ⟨h1, h2⟩ := od_cellEq hsame
  have hT2 : T.heap.size = s.heap.size := by rw [hT]
  rw [hT2] at hend hcell
  rw [od_nine] at hn
  have hst : U.heap[s.heap.size + 2]? = some cell := hcell
  refine ⟨U, X.lremZero hx (g := F0 m pc ls (.long 0 :: .long a :: rest)) rfl rfl (by show decode c.code pc = _; rw [hb]; exact hdg) U hsteps, .threw (s.heap.size + 2), [], 3, n, hrun, hend, hW, hsame, ⟨h1, fun q a b => h2 q a, fun z hz => by cases hz⟩, hpost U.heap n (by omega) h1 h2 ⟨cell, hst, ?_, by rw [← hok.1.alike.findClass]; exact KE.cls⟩⟩
  rw [KE.vm]
  rfl
end OAR
