/-! ===== OriginRulesModel: read ===== -/
/-- where a text goes on: state y, sign x, brackets w, digits g, number v, rows k -/
def rd_nx (y x w g v : Int32) (k : Nat) : Int32 :=
  if y = 0 then (if oc_dig x = true ∧ ¬ 20 ≤ k then 1 else -1)
  else if y = 1 then (if oc_dig x = true ∧ ¬ 6 ≤ g then 1 else if x = 58 then 2 else -1)
  else if y = 2 then oc_ahd x w
  else if y = 3 then oc_beh x w
  else if oc_dig x = true ∧ ¬ (if y = 4 then 3 else 2) ≤ g then y
  else if ¬ g ≤ 0 ∧ ¬ (if y = 4 then 100 else 15) < v then oc_beh x w else -1
def rd_g (y x g : Int32) : Int32 := if y = 0 then 1 else if y = 1 then g + 1 else if y = 2 then 0 else if y = 3 then g else if oc_dig x = true ∧ ¬ (if y = 4 then 3 else 2) ≤ g then g + 1 else g
def rd_v (y x g v : Int32) : Int32 := if y = 0 then v else if y = 1 then v else if y = 2 then 0 else if y = 3 then v else if oc_dig x = true ∧ ¬ (if y = 4 then 3 else 2) ≤ g then 10 * v + x - 48 else v
abbrev rd_S : Type := Int32 × Int32 × Int32 × Int32 × Nat × Int32 × (Nat → Int32)
/-- one sign more, at q -/
def rd_st (f : Nat → Int32) (q : Nat) (z : rd_S) : rd_S := match z with
  | (y, w, g, v, k, u, T) => (if 0 ≤ rd_nx y (f q) w g v k then rd_nx y (f q) w g v k else y, w + (if f q = 40 then 1 else if f q = 41 then -1 else 0), rd_g y (f q) g, rd_v y (f q) g v, k + (if rd_nx y (f q) w g v k = 0 then 1 else 0), if 0 ≤ rd_nx y (f q) w g v k then u else nI q, if y = 0 then upd T k (nI q) else T)
/-- behind q signs -/
def rd_it (f T : Nat → Int32) : Nat → rd_S
  | 0 => (0, 0, 0, 0, 0, -1, T)
  | q + 1 => rd_st f q (rd_it f T q)
def oc_cp (f g : Nat → Int32) (n : Nat) : Nat → Int32 := fun j => if j < n then f j else g j
theorem oc_cp_s (f g : Nat → Int32) (n : Nat) : upd (oc_cp f g n) n (f n) = oc_cp f g (n + 1) := by
  funext j
  simp only [upd, oc_cp]
  by_cases h : j = n
  · subst h; simp
  · by_cases h2 : j < n
    · simp [h, h2, Nat.lt_succ_of_lt h2]
    · simp [h, h2, show ¬ j < n + 1 by omega]
theorem oc_cp_0 (f g : Nat → Int32) : oc_cp f g 0 = g := by funext j; simp [oc_cp]
theorem rd_kk (f T : Nat → Int32) : ∀ q, (rd_it f T q).2.2.2.2.1 ≤ 20 ∧ (¬ (rd_it f T q).1 = 0 → (rd_it f T q).2.2.2.2.1 < 20) := by
  intro q
  induction q with
  | zero => exact ⟨Nat.zero_le _, fun h => absurd rfl h⟩
  | succ q ih =>
    rcases hz : rd_it f T q with ⟨y, w, g, v, k, u, T2⟩
    rw [hz] at ih
    have e : rd_it f T (q + 1) = rd_st f q (y, w, g, v, k, u, T2) := by show rd_st f q (rd_it f T q) = _; rw [hz]
    rw [e]
    simp only at ih
    show k + (if rd_nx y (f q) w g v k = 0 then 1 else 0) ≤ 20 ∧ (¬ (if 0 ≤ rd_nx y (f q) w g v k then rd_nx y (f q) w g v k else y) = 0 → k + (if rd_nx y (f q) w g v k = 0 then 1 else 0) < 20)
    by_cases hy : y = 0
    · subst hy
      have hn : rd_nx 0 (f q) w g v k = 1 ∧ k < 20 ∨ rd_nx 0 (f q) w g v k = -1 := by
        unfold rd_nx
        by_cases c : oc_dig (f q) = true ∧ ¬ 20 ≤ k
        · left; rw [if_pos rfl, if_pos c]; exact ⟨rfl, by omega⟩
        · right; rw [if_pos rfl, if_neg c]
      rcases hn with ⟨a, b⟩ | a
      · rw [a]; exact ⟨by simp; omega, fun _ => by simp; exact b⟩
      · rw [a]; exact ⟨by simp; omega, fun h => absurd (if_neg (by decide)) h⟩
    · have hk := ih.2 hy
      by_cases hn : rd_nx y (f q) w g v k = 0
      · rw [hn]; exact ⟨by simp; omega, fun h => absurd (if_pos (by decide)) h⟩
      · simp only [hn, if_false]; exact ⟨by omega, fun _ => by omega⟩
/-- where a reading stops -/
def rd_end (f T : Nat → Int32) (N q : Nat) : Prop := q ≤ N ∧ (q = N ∨ 0 ≤ (rd_it f T q).2.2.2.2.2.1) ∧ ∀ j, j < q → ¬ 0 ≤ (rd_it f T j).2.2.2.2.2.1
def rd_wr (N : Nat) (z : rd_S) : Int32 := if ¬ 0 ≤ z.2.2.2.2.2.1 ∧ (¬ z.1 = 0 ∨ z.2.2.2.2.1 = 0) then nI N else z.2.2.2.2.2.1
def sp_read (I : Nat → Int32) (F : Nat → Nat → Int32) (L : Nat → Int64) (N : Nat) : oc_Φ := fun v I' F' L' => L' = L ∧ ∃ q, rd_end (F 1) (F 6) N q ∧
  ((¬ 0 ≤ rd_wr N (rd_it (F 1) (F 6) q) ∧ v = some (.int (nI (rd_it (F 1) (F 6) q).2.2.2.2.1)) ∧ I' = upd (upd (upd I 0 0) 5 (nI (rd_it (F 1) (F 6) q).2.2.2.2.1)) 2 0 ∧
      F' = va_up (va_up (va_up F 6 (upd (rd_it (F 1) (F 6) q).2.2.2.2.2.2 (rd_it (F 1) (F 6) q).2.2.2.2.1 (nI N))) 3 (oc_cp (F 1) (F 3) N)) 4 (oc_cp (upd (rd_it (F 1) (F 6) q).2.2.2.2.2.2 (rd_it (F 1) (F 6) q).2.2.2.2.1 (nI N)) (F 4) ((rd_it (F 1) (F 6) q).2.2.2.2.1 + 1))) ∨
   (0 ≤ rd_wr N (rd_it (F 1) (F 6) q) ∧ v = some (.int (-1 - rd_wr N (rd_it (F 1) (F 6) q))) ∧ I' = upd (upd I 0 0) 2 0 ∧ F' = va_up F 6 (rd_it (F 1) (F 6) q).2.2.2.2.2.2))
set_option maxHeartbeats 4000000 in
set_option maxRecDepth 100000 in
theorem kX4_read {l : Launch} {s0 : State} {b0 : Addr} {D : va_G} {d : Nat → ClassId} (G : oc_G l s0 b0 D d) {h : Nat → Nat} {I : Nat → Int32} {F : Nat → Nat → Int32} {L : Nat → Int64} {H : Heap} (hP : va_P D oc_cl (oc_mW d h I F L) H) (hD : va_D (oc_hA h) (oc_mW d h I F L)) (hN0 : ∀ q, oc_hA h q → s0.heap.size ≤ q) (N : Nat) (hNs : I 2 = nI N) (h300 : N ≤ 300) : oc_C l s0 yX4_read (oc_rm 1 13 0 0) [.ref (h 0)] H (oc_hA h) (oc_Pm D d h (sp_read I F L N)) := by
  refine oc_start G (cc := cX4_read) (L := 12) (ret := (Option.some Jvm.ClassFile.FieldType.int)) q906 (Nat.le_of_ble_eq_true rfl) ?_
  intro p e s m below meth c ls hx hok hb hml hr hlocks htab hown hts hK hmn hh hl
  subst hh
  have hl : lv_has ls 12 [(0, .ref (h 0))] := hl
  have hS : va_S (oc_hA h) s.heap s.heap [] := va_S.rf
  generalize hH0 : s.heap = H at hP ⊢
  have hS : va_S (oc_hA h) s.heap H [] := by rw [← hH0]; exact va_S.rf
  clear hH0
  generalize hlo0 : ([] : List Loc) = locs at hS ⊢
  refine lv_aload_n hx hb dX4_read_0 rfl (lv_at hl 0 rfl) ?_
  refine lv_iconst (v := 0) hx hb dX4_read_1 (by decide) ?_
  refine va_put (D := D) (ci := 3) (v := .int 0) (ty := .int) (C := RX4) (T := TX4) (N := 27) hx hb hts in_X4 tyX4 tyX4_ok nmX4 hown hK hP hD hS 0 rfl rfl 0 (by decide) (hts _ q807) (fun _ h9 => h9) rfl (by decide +kernel) rfl rfl (Nat.le_of_ble_eq_true rfl) dX4_read_2 (fun H locs hP hD hS => ?_)
  have hP : va_P D oc_cl (oc_mW d h (upd I 0 0) F L) H := hP
  have hD : va_D (oc_hA h) (oc_mW d h (upd I 0 0) F L) := hD
  refine lv_iconst (v := 0) hx hb dX4_read_5 (by decide) ?_
  refine lv_istore_n (lv' := [(1, .int 0), (0, .ref (h 0))]) hx hb dX4_read_6 rfl hl (by decide) rfl (fun ls hl => ?_)
  refine lv_iconst (v := 0) hx hb dX4_read_7 (by decide) ?_
  refine lv_istore_n (lv' := [(2, .int 0), (1, .int 0), (0, .ref (h 0))]) hx hb dX4_read_8 rfl hl (by decide) rfl (fun ls hl => ?_)
  refine lv_iconst (v := 0) hx hb dX4_read_9 (by decide) ?_
  refine lv_istore_n (lv' := [(3, .int 0), (2, .int 0), (1, .int 0), (0, .ref (h 0))]) hx hb dX4_read_10 rfl hl (by decide) rfl (fun ls hl => ?_)
  refine lv_iconst (v := 0) hx hb dX4_read_11 (by decide) ?_
  refine lv_istore (lv' := [(4, .int 0), (3, .int 0), (2, .int 0), (1, .int 0), (0, .ref (h 0))]) hx hb dX4_read_12 hl (by decide) rfl (fun ls hl => ?_)
  refine lv_iconst (v := 0) hx hb dX4_read_14 (by decide) ?_
  refine lv_istore (lv' := [(5, .int 0), (4, .int 0), (3, .int 0), (2, .int 0), (1, .int 0), (0, .ref (h 0))]) hx hb dX4_read_15 hl (by decide) rfl (fun ls hl => ?_)
  refine lv_iconst (v := (-1)) hx hb dX4_read_17 (by decide) ?_
  refine lv_istore (lv' := [(6, .int (-1)), (5, .int 0), (4, .int 0), (3, .int 0), (2, .int 0), (1, .int 0), (0, .ref (h 0))]) hx hb dX4_read_18 hl (by decide) rfl (fun ls hl => ?_)
  refine lv_iconst (v := 0) hx hb dX4_read_20 (by decide) ?_
  refine lv_istore (lv' := [(7, .int 0), (6, .int (-1)), (5, .int 0), (4, .int 0), (3, .int 0), (2, .int 0), (1, .int 0), (0, .ref (h 0))]) hx hb dX4_read_21 hl (by decide) rfl (fun ls hl => ?_)
  have lp23 : ∀ (n : Nat) (q : Nat) (y : Int32) (w : Int32) (g : Int32) (v : Int32) (k : Nat) (u : Int32) (T : Nat → Int32), (q ≤ N) → (N + 1 ≤ q + n) → (rd_it (F 1) (F 6) q = (y, w, g, v, k, u, T)) → (∀ j, j < q → ¬ 0 ≤ (rd_it (F 1) (F 6) j).2.2.2.2.2.1) → ∀ (H : Heap) (locs : List Loc), va_P D oc_cl (oc_mW d h (upd I 0 0) (va_up F 6 T) L) H → va_D (oc_hA h) (oc_mW d h (upd I 0 0) (va_up F 6 T) L) → va_S (oc_hA h) s.heap H locs → ∀ (ls : Array Slot), lv_has ls 12 [(7, .int (nI q)), (6, .int u), (5, .int (nI k)), (4, .int v), (3, .int g), (2, .int w), (1, .int y), (0, .ref (h 0))] → W p l e (oc_rm 1 13 0 0) s m ([.ref (h 0)] : List Value).toArray below meth c H locs 0 0 (oc_Q (oc_hA h) below s (oc_Pm D d h (sp_read I F L N))) (F0 m 23 ls []) := by
    intro n
    induction n with
    | zero => intro q y w g v k u T hq hn hz hpre H locs hP hD hS ls hl; exact absurd hn (by omega)
    | succ n ih23 =>
      intro q y w g v k u T hq hn hz hpre H locs hP hD hS ls hl
      have hkk := rd_kk (F 1) (F 6) q
      rw [hz] at hkk
      have hk20 : k ≤ 20 := hkk.1
      have hk2 : ¬ y = 0 → k < 20 := hkk.2
      refine lv_iload hx hb dX4_read_23 (lv_at hl 0 rfl) ?_
      refine lv_aload_n hx hb dX4_read_25 rfl (lv_at hl 7 rfl) ?_
      refine va_get (D := D) (ci := 3) (v := .int (I 2)) (C := RX4) (T := TX4) (N := 27) hx hb hts in_X4 hown hK hP 0 rfl rfl 2 (by decide) (hts _ q809) (fun _ h9 => h9) rfl dX4_read_26 ?_
      refine oc_topi (x := I 2) (y := nI N) hNs ?_
      refine lv_icmp_ge (tgt := 325) hx hb dX4_read_29 (by decide) (fun c29 => ?_) (fun c29 => ?_)
      · -- taken
        rw [oc_le (x := nI N) (y := nI q) (a := N) (b := q) rfl rfl (by omega) (by omega)] at c29
        have hend : rd_end (F 1) (F 6) N q := ⟨hq, by rw [hz]; first | exact Or.inl (by omega) | exact Or.inr c34, hpre⟩
        obtain ⟨u2, eu2⟩ : ∃ u2 : Int32, u2 = rd_wr N (y, w, g, v, k, u, T) := ⟨_, rfl⟩
        refine oc_cut (g2 := F0 m 348 ls [.int u2]) ?_ (fun K348 => ?_)
        · -- behind 348
          refine lv_istore (lv' := [(6, .int u2), (7, .int (nI q)), (5, .int (nI k)), (4, .int v), (3, .int g), (2, .int w), (1, .int y), (0, .ref (h 0))]) hx hb dX4_read_348 hl (by decide) rfl (fun ls hl => ?_)
          refine lv_iload hx hb dX4_read_350 (lv_at hl 0 rfl) ?_
          refine lv_if_ge (tgt := 434) hx hb dX4_read_352 (by decide) (fun c352 => ?_) (fun c352 => ?_)
          · -- taken
            refine lv_aload_n hx hb dX4_read_434 rfl (lv_at hl 7 rfl) ?_
            refine lv_iconst (v := 0) hx hb dX4_read_435 (by decide) ?_
            refine va_put (D := D) (ci := 3) (v := .int 0) (ty := .int) (C := RX4) (T := TX4) (N := 27) hx hb hts in_X4 tyX4 tyX4_ok nmX4 hown hK hP hD hS 0 rfl rfl 2 (by decide) (hts _ q809) (fun _ h9 => h9) rfl (by decide +kernel) rfl rfl (Nat.le_of_ble_eq_true rfl) dX4_read_436 (fun H locs hP hD hS => ?_)
            have hP : va_P D oc_cl (oc_mW d h (upd (upd I 0 0) 2 0) (va_up F 6 T) L) H := hP
            have hD : va_D (oc_hA h) (oc_mW d h (upd (upd I 0 0) 2 0) (va_up F 6 T) L) := hD
            refine lv_iload hx hb dX4_read_439 (lv_at hl 0 rfl) ?_
            refine lv_if_ge (tgt := 449) hx hb dX4_read_441 (by decide) (fun c441 => ?_) (fun c441 => ?_)
            · -- taken
              refine lv_iconst (v := (-1)) hx hb dX4_read_449 (by decide) ?_
              refine lv_iload hx hb dX4_read_450 (lv_at hl 0 rfl) ?_
              refine lv_isub hx hb dX4_read_452 ?_
              exact oc_iret hx hb hr hlocks hS dX4_read_453 ⟨_, _, _, _, rfl, hP, rfl, rfl, ⟨rfl, q, hend, Or.inr ⟨by rw [hz]; show 0 ≤ rd_wr N (y, w, g, v, k, u, T); rw [← eu2]; exact c352, by rw [hz, eu2], rfl, by rw [hz]⟩⟩⟩
            · -- not taken
              exact absurd c352 c441
          · -- not taken
            refine lv_aload_n hx hb dX4_read_355 rfl (lv_at hl 7 rfl) ?_
            refine lv_iload hx hb dX4_read_356 (lv_at hl 2 rfl) ?_
            refine va_put (D := D) (ci := 3) (v := .int (nI k)) (ty := .int) (C := RX4) (T := TX4) (N := 27) hx hb hts in_X4 tyX4 tyX4_ok nmX4 hown hK hP hD hS 0 rfl rfl 5 (by decide) (hts _ q812) (fun _ h9 => h9) rfl (by decide +kernel) rfl rfl (Nat.le_of_ble_eq_true rfl) dX4_read_358 (fun H locs hP hD hS => ?_)
            have hP : va_P D oc_cl (oc_mW d h (upd (upd I 0 0) 5 (nI k)) (va_up F 6 T) L) H := hP
            have hD : va_D (oc_hA h) (oc_mW d h (upd (upd I 0 0) 5 (nI k)) (va_up F 6 T) L) := hD
            refine lv_iconst (v := 0) hx hb dX4_read_361 (by decide) ?_
            refine lv_istore (lv' := [(7, .int 0), (6, .int u2), (5, .int (nI k)), (4, .int v), (3, .int g), (2, .int w), (1, .int y), (0, .ref (h 0))]) hx hb dX4_read_362 hl (by decide) rfl (fun ls hl => ?_)
            have lp364 : ∀ (n : Nat) (j : Nat), (j ≤ N) → (N + 1 ≤ j + n) → ∀ (H : Heap) (locs : List Loc), va_P D oc_cl (oc_mW d h (upd (upd I 0 0) 5 (nI k)) (va_up (va_up F 6 T) 3 (oc_cp (F 1) (F 3) j)) L) H → va_D (oc_hA h) (oc_mW d h (upd (upd I 0 0) 5 (nI k)) (va_up (va_up F 6 T) 3 (oc_cp (F 1) (F 3) j)) L) → va_S (oc_hA h) s.heap H locs → ∀ (ls : Array Slot), lv_has ls 12 [(7, .int (nI j)), (6, .int u2), (5, .int (nI k)), (0, .ref (h 0))] → W p l e (oc_rm 1 13 0 0) s m ([.ref (h 0)] : List Value).toArray below meth c H locs 0 0 (oc_Q (oc_hA h) below s (oc_Pm D d h (sp_read I F L N))) (F0 m 364 ls []) := by
              intro n
              induction n with
              | zero => intro j hj hn3 H locs hP hD hS ls hl; exact absurd hn3 (by omega)
              | succ n ih364 =>
                intro j hj hn3 H locs hP hD hS ls hl
                refine lv_iload hx hb dX4_read_364 (lv_at hl 0 rfl) ?_
                refine lv_aload_n hx hb dX4_read_366 rfl (lv_at hl 3 rfl) ?_
                refine va_get (D := D) (ci := 3) (v := .int (I 2)) (C := RX4) (T := TX4) (N := 27) hx hb hts in_X4 hown hK hP 0 rfl rfl 2 (by decide) (hts _ q809) (fun _ h9 => h9) rfl dX4_read_367 ?_
                refine oc_topi (x := I 2) (y := nI N) hNs ?_
                refine lv_icmp_ge (tgt := 393) hx hb dX4_read_370 (by decide) (fun c370 => ?_) (fun c370 => ?_)
                · -- taken
                  rw [oc_le (x := nI N) (y := nI j) (a := N) (b := j) rfl rfl (by omega) (by omega)] at c370
                  have hjN : N = j := by omega
                  subst hjN
                  refine lv_aload_n hx hb dX4_read_393 rfl (lv_at hl 3 rfl) ?_
                  refine va_get (D := D) (ci := 3) (v := .ref (h 6)) (C := RX4) (T := TX4) (N := 27) hx hb hts in_X4 hown hK hP 0 rfl rfl 6 (by decide) (hts _ q813) (fun _ h9 => h9) rfl dX4_read_394 ?_
                  refine lv_iload hx hb dX4_read_397 (lv_at hl 2 rfl) ?_
                  refine lv_aload_n hx hb dX4_read_399 rfl (lv_at hl 3 rfl) ?_
                  refine va_get (D := D) (ci := 3) (v := .int (I 2)) (C := RX4) (T := TX4) (N := 27) hx hb hts in_X4 hown hK hP 0 rfl rfl 2 (by decide) (hts _ q809) (fun _ h9 => h9) rfl dX4_read_400 ?_
                  refine oc_topi (x := I 2) (y := nI N) hNs ?_
                  refine oc_iast hx hb hK hP hD hS 4 0 rfl rfl k rfl (by omega) (by decide) dX4_read_403 (fun H locs hP hD hS => ?_)
                  have hP : va_P D oc_cl (oc_mW d h (upd (upd I 0 0) 5 (nI k)) (va_up (va_up F 6 (upd T k (nI N))) 3 (oc_cp (F 1) (F 3) N)) L) H := hP
                  have hD : va_D (oc_hA h) (oc_mW d h (upd (upd I 0 0) 5 (nI k)) (va_up (va_up F 6 (upd T k (nI N))) 3 (oc_cp (F 1) (F 3) N)) L) := hD
                  refine lv_iconst (v := 0) hx hb dX4_read_404 (by decide) ?_
                  refine lv_istore (lv' := [(7, .int 0), (6, .int u2), (5, .int (nI k)), (0, .ref (h 0))]) hx hb dX4_read_405 hl (by decide) rfl (fun ls hl => ?_)
                  have lp407 : ∀ (n : Nat) (i : Nat), (i ≤ k + 1) → (k + 2 ≤ i + n) → ∀ (H : Heap) (locs : List Loc), va_P D oc_cl (oc_mW d h (upd (upd I 0 0) 5 (nI k)) (va_up (va_up (va_up F 6 (upd T k (nI N))) 3 (oc_cp (F 1) (F 3) N)) 4 (oc_cp (upd T k (nI N)) (F 4) i)) L) H → va_D (oc_hA h) (oc_mW d h (upd (upd I 0 0) 5 (nI k)) (va_up (va_up (va_up F 6 (upd T k (nI N))) 3 (oc_cp (F 1) (F 3) N)) 4 (oc_cp (upd T k (nI N)) (F 4) i)) L) → va_S (oc_hA h) s.heap H locs → ∀ (ls : Array Slot), lv_has ls 12 [(7, .int (nI i)), (6, .int u2), (5, .int (nI k)), (0, .ref (h 0))] → W p l e (oc_rm 1 13 0 0) s m ([.ref (h 0)] : List Value).toArray below meth c H locs 0 0 (oc_Q (oc_hA h) below s (oc_Pm D d h (sp_read I F L N))) (F0 m 407 ls []) := by
                    intro n
                    induction n with
                    | zero => intro i hi hn4 H locs hP hD hS ls hl; exact absurd hn4 (by omega)
                    | succ n ih407 =>
                      intro i hi hn4 H locs hP hD hS ls hl
                      refine lv_iload hx hb dX4_read_407 (lv_at hl 0 rfl) ?_
                      refine lv_iload hx hb dX4_read_409 (lv_at hl 2 rfl) ?_
                      refine lv_icmp_gt (tgt := 434) hx hb dX4_read_411 (by decide) (fun c411 => ?_) (fun c411 => ?_)
                      · -- taken
                        rw [oc_lt (x := nI k) (y := nI i) (a := k) (b := i) rfl rfl (by omega) (by omega)] at c411
                        refine lv_aload_n hx hb dX4_read_434 rfl (lv_at hl 3 rfl) ?_
                        refine lv_iconst (v := 0) hx hb dX4_read_435 (by decide) ?_
                        refine va_put (D := D) (ci := 3) (v := .int 0) (ty := .int) (C := RX4) (T := TX4) (N := 27) hx hb hts in_X4 tyX4 tyX4_ok nmX4 hown hK hP hD hS 0 rfl rfl 2 (by decide) (hts _ q809) (fun _ h9 => h9) rfl (by decide +kernel) rfl rfl (Nat.le_of_ble_eq_true rfl) dX4_read_436 (fun H locs hP hD hS => ?_)
                        have hP : va_P D oc_cl (oc_mW d h (upd (upd (upd I 0 0) 5 (nI k)) 2 0) (va_up (va_up (va_up F 6 (upd T k (nI N))) 3 (oc_cp (F 1) (F 3) N)) 4 (oc_cp (upd T k (nI N)) (F 4) i)) L) H := hP
                        have hD : va_D (oc_hA h) (oc_mW d h (upd (upd (upd I 0 0) 5 (nI k)) 2 0) (va_up (va_up (va_up F 6 (upd T k (nI N))) 3 (oc_cp (F 1) (F 3) N)) 4 (oc_cp (upd T k (nI N)) (F 4) i)) L) := hD
                        refine lv_iload hx hb dX4_read_439 (lv_at hl 1 rfl) ?_
                        refine lv_if_ge (tgt := 449) hx hb dX4_read_441 (by decide) (fun c441 => ?_) (fun c441 => ?_)
                        · -- taken
                          exact absurd c441 c352
                        · -- not taken
                          refine lv_iload hx hb dX4_read_444 (lv_at hl 2 rfl) ?_
                          refine lv_goto (tgt := 453) hx hb dX4_read_446 (by decide) ?_
                          exact oc_iret hx hb hr hlocks hS dX4_read_453 ⟨_, _, _, _, rfl, hP, rfl, rfl, ⟨rfl, q, hend, Or.inl ⟨by rw [hz]; show ¬ 0 ≤ rd_wr N (y, w, g, v, k, u, T); rw [← eu2]; exact c352, by rw [hz], by rw [hz], by rw [hz, show i = k + 1 by omega]⟩⟩⟩
                      · -- not taken
                        rw [oc_lt (x := nI k) (y := nI i) (a := k) (b := i) rfl rfl (by omega) (by omega)] at c411
                        refine lv_aload_n hx hb dX4_read_414 rfl (lv_at hl 3 rfl) ?_
                        refine va_get (D := D) (ci := 3) (v := .ref (h 4)) (C := RX4) (T := TX4) (N := 27) hx hb hts in_X4 hown hK hP 0 rfl rfl 4 (by decide) (hts _ q811) (fun _ h9 => h9) rfl dX4_read_415 ?_
                        refine lv_iload hx hb dX4_read_418 (lv_at hl 0 rfl) ?_
                        refine lv_aload_n hx hb dX4_read_420 rfl (lv_at hl 3 rfl) ?_
                        refine va_get (D := D) (ci := 3) (v := .ref (h 6)) (C := RX4) (T := TX4) (N := 27) hx hb hts in_X4 hown hK hP 0 rfl rfl 6 (by decide) (hts _ q813) (fun _ h9 => h9) rfl dX4_read_421 ?_
                        refine lv_iload hx hb dX4_read_424 (lv_at hl 0 rfl) ?_
                        refine oc_iald hx hb hK hP 4 0 rfl rfl i rfl (by omega) (by decide) dX4_read_426 ?_
                        refine oc_iast hx hb hK hP hD hS 3 0 rfl rfl i rfl (by omega) (by decide) dX4_read_427 (fun H locs hP hD hS => ?_)
                        have hP : va_P D oc_cl (oc_mW d h (upd (upd I 0 0) 5 (nI k)) (va_up (va_up (va_up F 6 (upd T k (nI N))) 3 (oc_cp (F 1) (F 3) N)) 4 (upd (oc_cp (upd T k (nI N)) (F 4) i) i ((upd T k (nI N)) i))) L) H := hP
                        have hD : va_D (oc_hA h) (oc_mW d h (upd (upd I 0 0) 5 (nI k)) (va_up (va_up (va_up F 6 (upd T k (nI N))) 3 (oc_cp (F 1) (F 3) N)) 4 (upd (oc_cp (upd T k (nI N)) (F 4) i) i ((upd T k (nI N)) i))) L) := hD
                        refine lv_iinc (v := nI (i + 1)) (lv' := [(7, .int (nI (i + 1))), (6, .int u2), (5, .int (nI k)), (0, .ref (h 0))]) hx hb dX4_read_428 hl (k := 0) rfl (nI_1 i) (by decide) rfl (fun ls hl => ?_)
                        refine lv_goto (tgt := 407) hx hb dX4_read_431 (by decide) ?_
                        exact ih407 (i + 1) (by omega) (by omega) H locs (by rw [← oc_cp_s]; exact hP) (by rw [← oc_cp_s]; exact hD) hS ls (lv_sub hl [0, 1, 2, 3] rfl)
                  exact lp407 (k + 2) 0 (by omega) (by omega) H locs (by rw [oc_cp_0]; exact hP) (by rw [oc_cp_0]; exact hD) hS ls (lv_sub hl [0, 1, 2, 3] rfl)
                · -- not taken
                  rw [oc_le (x := nI N) (y := nI j) (a := N) (b := j) rfl rfl (by omega) (by omega)] at c370
                  refine lv_aload_n hx hb dX4_read_373 rfl (lv_at hl 3 rfl) ?_
                  refine va_get (D := D) (ci := 3) (v := .ref (h 3)) (C := RX4) (T := TX4) (N := 27) hx hb hts in_X4 hown hK hP 0 rfl rfl 3 (by decide) (hts _ q810) (fun _ h9 => h9) rfl dX4_read_374 ?_
                  refine lv_iload hx hb dX4_read_377 (lv_at hl 0 rfl) ?_
                  refine lv_aload_n hx hb dX4_read_379 rfl (lv_at hl 3 rfl) ?_
                  refine va_get (D := D) (ci := 3) (v := .ref (h 1)) (C := RX4) (T := TX4) (N := 27) hx hb hts in_X4 hown hK hP 0 rfl rfl 1 (by decide) (hts _ q808) (fun _ h9 => h9) rfl dX4_read_380 ?_
                  refine lv_iload hx hb dX4_read_383 (lv_at hl 0 rfl) ?_
                  refine oc_iald hx hb hK hP 1 0 rfl rfl j rfl (by omega) (by decide) dX4_read_385 ?_
                  refine oc_iast hx hb hK hP hD hS 2 0 rfl rfl j rfl (by omega) (by decide) dX4_read_386 (fun H locs hP hD hS => ?_)
                  have hP : va_P D oc_cl (oc_mW d h (upd (upd I 0 0) 5 (nI k)) (va_up (va_up F 6 T) 3 (upd (oc_cp (F 1) (F 3) j) j ((F 1) j))) L) H := hP
                  have hD : va_D (oc_hA h) (oc_mW d h (upd (upd I 0 0) 5 (nI k)) (va_up (va_up F 6 T) 3 (upd (oc_cp (F 1) (F 3) j) j ((F 1) j))) L) := hD
                  refine lv_iinc (v := nI (j + 1)) (lv' := [(7, .int (nI (j + 1))), (6, .int u2), (5, .int (nI k)), (0, .ref (h 0))]) hx hb dX4_read_387 hl (k := 0) rfl (nI_1 j) (by decide) rfl (fun ls hl => ?_)
                  refine lv_goto (tgt := 364) hx hb dX4_read_390 (by decide) ?_
                  exact ih364 (j + 1) (by omega) (by omega) H locs (by rw [← oc_cp_s]; exact hP) (by rw [← oc_cp_s]; exact hD) hS ls (lv_sub hl [0, 1, 2, 3] rfl)
            exact lp364 (N + 1) 0 (by omega) (by omega) H locs (by rw [oc_cp_0]; exact hP) (by rw [oc_cp_0]; exact hD) hS ls (lv_sub hl [0, 1, 2, 7] rfl)
        · -- up to 348
          refine lv_iload hx hb dX4_read_325 (lv_at hl 1 rfl) ?_
          refine lv_if_ge (tgt := 346) hx hb dX4_read_327 (by decide) (fun c327 => ?_) (fun c327 => ?_)
          · -- taken
            refine lv_iload hx hb dX4_read_346 (lv_at hl 1 rfl) ?_
            exact oc_topi (by first | exact absurd c34 c327 | (rw [eu2]; simp [rd_wr, *])) K348
          · -- not taken
            refine lv_iload_n hx hb dX4_read_330 rfl (lv_at hl 6 rfl) ?_
            refine lv_if_ne (tgt := 339) hx hb dX4_read_331 (by decide) (fun c331 => ?_) (fun c331 => ?_)
            · -- taken
              refine lv_aload_n hx hb dX4_read_339 rfl (lv_at hl 7 rfl) ?_
              refine va_get (D := D) (ci := 3) (v := .int (I 2)) (C := RX4) (T := TX4) (N := 27) hx hb hts in_X4 hown hK hP 0 rfl rfl 2 (by decide) (hts _ q809) (fun _ h9 => h9) rfl dX4_read_340 ?_
              refine oc_topi (x := I 2) (y := nI N) hNs ?_
              refine lv_goto (tgt := 348) hx hb dX4_read_343 (by decide) ?_
              exact oc_topi (by first | exact absurd c34 c327 | (rw [eu2]; simp [rd_wr, *])) K348
            · -- not taken
              refine lv_iload hx hb dX4_read_334 (lv_at hl 2 rfl) ?_
              refine lv_if_ne (tgt := 346) hx hb dX4_read_336 (by decide) (fun c336 => ?_) (fun c336 => ?_)
              · -- taken
                rw [oc_eq (x := nI k) (y := 0) (a := k) (b := 0) rfl rfl (by omega) (by omega)] at c336
                refine lv_iload hx hb dX4_read_346 (lv_at hl 1 rfl) ?_
                exact oc_topi (by first | exact absurd c34 c327 | (rw [eu2]; simp [rd_wr, *])) K348
              · -- not taken
                rw [oc_eq (x := nI k) (y := 0) (a := k) (b := 0) rfl rfl (by omega) (by omega)] at c336
                refine lv_aload_n hx hb dX4_read_339 rfl (lv_at hl 7 rfl) ?_
                refine va_get (D := D) (ci := 3) (v := .int (I 2)) (C := RX4) (T := TX4) (N := 27) hx hb hts in_X4 hown hK hP 0 rfl rfl 2 (by decide) (hts _ q809) (fun _ h9 => h9) rfl dX4_read_340 ?_
                refine oc_topi (x := I 2) (y := nI N) hNs ?_
                refine lv_goto (tgt := 348) hx hb dX4_read_343 (by decide) ?_
                exact oc_topi (by first | exact absurd c34 c327 | (rw [eu2]; simp [rd_wr, *])) K348
      · -- not taken
        rw [oc_le (x := nI N) (y := nI q) (a := N) (b := q) rfl rfl (by omega) (by omega)] at c29
        refine lv_iload hx hb dX4_read_32 (lv_at hl 1 rfl) ?_
        refine lv_if_ge (tgt := 325) hx hb dX4_read_34 (by decide) (fun c34 => ?_) (fun c34 => ?_)
        · -- taken
          have hend : rd_end (F 1) (F 6) N q := ⟨hq, by rw [hz]; first | exact Or.inl (by omega) | exact Or.inr c34, hpre⟩
          obtain ⟨u2, eu2⟩ : ∃ u2 : Int32, u2 = rd_wr N (y, w, g, v, k, u, T) := ⟨_, rfl⟩
          refine oc_cut (g2 := F0 m 348 ls [.int u2]) ?_ (fun K348 => ?_)
          · -- behind 348
            refine lv_istore (lv' := [(6, .int u2), (7, .int (nI q)), (5, .int (nI k)), (4, .int v), (3, .int g), (2, .int w), (1, .int y), (0, .ref (h 0))]) hx hb dX4_read_348 hl (by decide) rfl (fun ls hl => ?_)
            refine lv_iload hx hb dX4_read_350 (lv_at hl 0 rfl) ?_
            refine lv_if_ge (tgt := 434) hx hb dX4_read_352 (by decide) (fun c352 => ?_) (fun c352 => ?_)
            · -- taken
              refine lv_aload_n hx hb dX4_read_434 rfl (lv_at hl 7 rfl) ?_
              refine lv_iconst (v := 0) hx hb dX4_read_435 (by decide) ?_
              refine va_put (D := D) (ci := 3) (v := .int 0) (ty := .int) (C := RX4) (T := TX4) (N := 27) hx hb hts in_X4 tyX4 tyX4_ok nmX4 hown hK hP hD hS 0 rfl rfl 2 (by decide) (hts _ q809) (fun _ h9 => h9) rfl (by decide +kernel) rfl rfl (Nat.le_of_ble_eq_true rfl) dX4_read_436 (fun H locs hP hD hS => ?_)
              have hP : va_P D oc_cl (oc_mW d h (upd (upd I 0 0) 2 0) (va_up F 6 T) L) H := hP
              have hD : va_D (oc_hA h) (oc_mW d h (upd (upd I 0 0) 2 0) (va_up F 6 T) L) := hD
              refine lv_iload hx hb dX4_read_439 (lv_at hl 0 rfl) ?_
              refine lv_if_ge (tgt := 449) hx hb dX4_read_441 (by decide) (fun c441 => ?_) (fun c441 => ?_)
              · -- taken
                refine lv_iconst (v := (-1)) hx hb dX4_read_449 (by decide) ?_
                refine lv_iload hx hb dX4_read_450 (lv_at hl 0 rfl) ?_
                refine lv_isub hx hb dX4_read_452 ?_
                exact oc_iret hx hb hr hlocks hS dX4_read_453 ⟨_, _, _, _, rfl, hP, rfl, rfl, ⟨rfl, q, hend, Or.inr ⟨by rw [hz]; show 0 ≤ rd_wr N (y, w, g, v, k, u, T); rw [← eu2]; exact c352, by rw [hz, eu2], rfl, by rw [hz]⟩⟩⟩
              · -- not taken
                exact absurd c352 c441
            · -- not taken
              refine lv_aload_n hx hb dX4_read_355 rfl (lv_at hl 7 rfl) ?_
              refine lv_iload hx hb dX4_read_356 (lv_at hl 2 rfl) ?_
              refine va_put (D := D) (ci := 3) (v := .int (nI k)) (ty := .int) (C := RX4) (T := TX4) (N := 27) hx hb hts in_X4 tyX4 tyX4_ok nmX4 hown hK hP hD hS 0 rfl rfl 5 (by decide) (hts _ q812) (fun _ h9 => h9) rfl (by decide +kernel) rfl rfl (Nat.le_of_ble_eq_true rfl) dX4_read_358 (fun H locs hP hD hS => ?_)
              have hP : va_P D oc_cl (oc_mW d h (upd (upd I 0 0) 5 (nI k)) (va_up F 6 T) L) H := hP
              have hD : va_D (oc_hA h) (oc_mW d h (upd (upd I 0 0) 5 (nI k)) (va_up F 6 T) L) := hD
              refine lv_iconst (v := 0) hx hb dX4_read_361 (by decide) ?_
              refine lv_istore (lv' := [(7, .int 0), (6, .int u2), (5, .int (nI k)), (4, .int v), (3, .int g), (2, .int w), (1, .int y), (0, .ref (h 0))]) hx hb dX4_read_362 hl (by decide) rfl (fun ls hl => ?_)
              have lp364 : ∀ (n : Nat) (j : Nat), (j ≤ N) → (N + 1 ≤ j + n) → ∀ (H : Heap) (locs : List Loc), va_P D oc_cl (oc_mW d h (upd (upd I 0 0) 5 (nI k)) (va_up (va_up F 6 T) 3 (oc_cp (F 1) (F 3) j)) L) H → va_D (oc_hA h) (oc_mW d h (upd (upd I 0 0) 5 (nI k)) (va_up (va_up F 6 T) 3 (oc_cp (F 1) (F 3) j)) L) → va_S (oc_hA h) s.heap H locs → ∀ (ls : Array Slot), lv_has ls 12 [(7, .int (nI j)), (6, .int u2), (5, .int (nI k)), (0, .ref (h 0))] → W p l e (oc_rm 1 13 0 0) s m ([.ref (h 0)] : List Value).toArray below meth c H locs 0 0 (oc_Q (oc_hA h) below s (oc_Pm D d h (sp_read I F L N))) (F0 m 364 ls []) := by
                intro n
                induction n with
                | zero => intro j hj hn3 H locs hP hD hS ls hl; exact absurd hn3 (by omega)
                | succ n ih364 =>
                  intro j hj hn3 H locs hP hD hS ls hl
                  refine lv_iload hx hb dX4_read_364 (lv_at hl 0 rfl) ?_
                  refine lv_aload_n hx hb dX4_read_366 rfl (lv_at hl 3 rfl) ?_
                  refine va_get (D := D) (ci := 3) (v := .int (I 2)) (C := RX4) (T := TX4) (N := 27) hx hb hts in_X4 hown hK hP 0 rfl rfl 2 (by decide) (hts _ q809) (fun _ h9 => h9) rfl dX4_read_367 ?_
                  refine oc_topi (x := I 2) (y := nI N) hNs ?_
                  refine lv_icmp_ge (tgt := 393) hx hb dX4_read_370 (by decide) (fun c370 => ?_) (fun c370 => ?_)
                  · -- taken
                    rw [oc_le (x := nI N) (y := nI j) (a := N) (b := j) rfl rfl (by omega) (by omega)] at c370
                    have hjN : N = j := by omega
                    subst hjN
                    refine lv_aload_n hx hb dX4_read_393 rfl (lv_at hl 3 rfl) ?_
                    refine va_get (D := D) (ci := 3) (v := .ref (h 6)) (C := RX4) (T := TX4) (N := 27) hx hb hts in_X4 hown hK hP 0 rfl rfl 6 (by decide) (hts _ q813) (fun _ h9 => h9) rfl dX4_read_394 ?_
                    refine lv_iload hx hb dX4_read_397 (lv_at hl 2 rfl) ?_
                    refine lv_aload_n hx hb dX4_read_399 rfl (lv_at hl 3 rfl) ?_
                    refine va_get (D := D) (ci := 3) (v := .int (I 2)) (C := RX4) (T := TX4) (N := 27) hx hb hts in_X4 hown hK hP 0 rfl rfl 2 (by decide) (hts _ q809) (fun _ h9 => h9) rfl dX4_read_400 ?_
                    refine oc_topi (x := I 2) (y := nI N) hNs ?_
                    refine oc_iast hx hb hK hP hD hS 4 0 rfl rfl k rfl (by omega) (by decide) dX4_read_403 (fun H locs hP hD hS => ?_)
                    have hP : va_P D oc_cl (oc_mW d h (upd (upd I 0 0) 5 (nI k)) (va_up (va_up F 6 (upd T k (nI N))) 3 (oc_cp (F 1) (F 3) N)) L) H := hP
                    have hD : va_D (oc_hA h) (oc_mW d h (upd (upd I 0 0) 5 (nI k)) (va_up (va_up F 6 (upd T k (nI N))) 3 (oc_cp (F 1) (F 3) N)) L) := hD
                    refine lv_iconst (v := 0) hx hb dX4_read_404 (by decide) ?_
                    refine lv_istore (lv' := [(7, .int 0), (6, .int u2), (5, .int (nI k)), (0, .ref (h 0))]) hx hb dX4_read_405 hl (by decide) rfl (fun ls hl => ?_)
                    have lp407 : ∀ (n : Nat) (i : Nat), (i ≤ k + 1) → (k + 2 ≤ i + n) → ∀ (H : Heap) (locs : List Loc), va_P D oc_cl (oc_mW d h (upd (upd I 0 0) 5 (nI k)) (va_up (va_up (va_up F 6 (upd T k (nI N))) 3 (oc_cp (F 1) (F 3) N)) 4 (oc_cp (upd T k (nI N)) (F 4) i)) L) H → va_D (oc_hA h) (oc_mW d h (upd (upd I 0 0) 5 (nI k)) (va_up (va_up (va_up F 6 (upd T k (nI N))) 3 (oc_cp (F 1) (F 3) N)) 4 (oc_cp (upd T k (nI N)) (F 4) i)) L) → va_S (oc_hA h) s.heap H locs → ∀ (ls : Array Slot), lv_has ls 12 [(7, .int (nI i)), (6, .int u2), (5, .int (nI k)), (0, .ref (h 0))] → W p l e (oc_rm 1 13 0 0) s m ([.ref (h 0)] : List Value).toArray below meth c H locs 0 0 (oc_Q (oc_hA h) below s (oc_Pm D d h (sp_read I F L N))) (F0 m 407 ls []) := by
                      intro n
                      induction n with
                      | zero => intro i hi hn4 H locs hP hD hS ls hl; exact absurd hn4 (by omega)
                      | succ n ih407 =>
                        intro i hi hn4 H locs hP hD hS ls hl
                        refine lv_iload hx hb dX4_read_407 (lv_at hl 0 rfl) ?_
                        refine lv_iload hx hb dX4_read_409 (lv_at hl 2 rfl) ?_
                        refine lv_icmp_gt (tgt := 434) hx hb dX4_read_411 (by decide) (fun c411 => ?_) (fun c411 => ?_)
                        · -- taken
                          rw [oc_lt (x := nI k) (y := nI i) (a := k) (b := i) rfl rfl (by omega) (by omega)] at c411
                          refine lv_aload_n hx hb dX4_read_434 rfl (lv_at hl 3 rfl) ?_
                          refine lv_iconst (v := 0) hx hb dX4_read_435 (by decide) ?_
                          refine va_put (D := D) (ci := 3) (v := .int 0) (ty := .int) (C := RX4) (T := TX4) (N := 27) hx hb hts in_X4 tyX4 tyX4_ok nmX4 hown hK hP hD hS 0 rfl rfl 2 (by decide) (hts _ q809) (fun _ h9 => h9) rfl (by decide +kernel) rfl rfl (Nat.le_of_ble_eq_true rfl) dX4_read_436 (fun H locs hP hD hS => ?_)
                          have hP : va_P D oc_cl (oc_mW d h (upd (upd (upd I 0 0) 5 (nI k)) 2 0) (va_up (va_up (va_up F 6 (upd T k (nI N))) 3 (oc_cp (F 1) (F 3) N)) 4 (oc_cp (upd T k (nI N)) (F 4) i)) L) H := hP
                          have hD : va_D (oc_hA h) (oc_mW d h (upd (upd (upd I 0 0) 5 (nI k)) 2 0) (va_up (va_up (va_up F 6 (upd T k (nI N))) 3 (oc_cp (F 1) (F 3) N)) 4 (oc_cp (upd T k (nI N)) (F 4) i)) L) := hD
                          refine lv_iload hx hb dX4_read_439 (lv_at hl 1 rfl) ?_
                          refine lv_if_ge (tgt := 449) hx hb dX4_read_441 (by decide) (fun c441 => ?_) (fun c441 => ?_)
                          · -- taken
                            exact absurd c441 c352
                          · -- not taken
                            refine lv_iload hx hb dX4_read_444 (lv_at hl 2 rfl) ?_
                            refine lv_goto (tgt := 453) hx hb dX4_read_446 (by decide) ?_
                            exact oc_iret hx hb hr hlocks hS dX4_read_453 ⟨_, _, _, _, rfl, hP, rfl, rfl, ⟨rfl, q, hend, Or.inl ⟨by rw [hz]; show ¬ 0 ≤ rd_wr N (y, w, g, v, k, u, T); rw [← eu2]; exact c352, by rw [hz], by rw [hz], by rw [hz, show i = k + 1 by omega]⟩⟩⟩
                        · -- not taken
                          rw [oc_lt (x := nI k) (y := nI i) (a := k) (b := i) rfl rfl (by omega) (by omega)] at c411
                          refine lv_aload_n hx hb dX4_read_414 rfl (lv_at hl 3 rfl) ?_
                          refine va_get (D := D) (ci := 3) (v := .ref (h 4)) (C := RX4) (T := TX4) (N := 27) hx hb hts in_X4 hown hK hP 0 rfl rfl 4 (by decide) (hts _ q811) (fun _ h9 => h9) rfl dX4_read_415 ?_
                          refine lv_iload hx hb dX4_read_418 (lv_at hl 0 rfl) ?_
                          refine lv_aload_n hx hb dX4_read_420 rfl (lv_at hl 3 rfl) ?_
                          refine va_get (D := D) (ci := 3) (v := .ref (h 6)) (C := RX4) (T := TX4) (N := 27) hx hb hts in_X4 hown hK hP 0 rfl rfl 6 (by decide) (hts _ q813) (fun _ h9 => h9) rfl dX4_read_421 ?_
                          refine lv_iload hx hb dX4_read_424 (lv_at hl 0 rfl) ?_
                          refine oc_iald hx hb hK hP 4 0 rfl rfl i rfl (by omega) (by decide) dX4_read_426 ?_
                          refine oc_iast hx hb hK hP hD hS 3 0 rfl rfl i rfl (by omega) (by decide) dX4_read_427 (fun H locs hP hD hS => ?_)
                          have hP : va_P D oc_cl (oc_mW d h (upd (upd I 0 0) 5 (nI k)) (va_up (va_up (va_up F 6 (upd T k (nI N))) 3 (oc_cp (F 1) (F 3) N)) 4 (upd (oc_cp (upd T k (nI N)) (F 4) i) i ((upd T k (nI N)) i))) L) H := hP
                          have hD : va_D (oc_hA h) (oc_mW d h (upd (upd I 0 0) 5 (nI k)) (va_up (va_up (va_up F 6 (upd T k (nI N))) 3 (oc_cp (F 1) (F 3) N)) 4 (upd (oc_cp (upd T k (nI N)) (F 4) i) i ((upd T k (nI N)) i))) L) := hD
                          refine lv_iinc (v := nI (i + 1)) (lv' := [(7, .int (nI (i + 1))), (6, .int u2), (5, .int (nI k)), (0, .ref (h 0))]) hx hb dX4_read_428 hl (k := 0) rfl (nI_1 i) (by decide) rfl (fun ls hl => ?_)
                          refine lv_goto (tgt := 407) hx hb dX4_read_431 (by decide) ?_
                          exact ih407 (i + 1) (by omega) (by omega) H locs (by rw [← oc_cp_s]; exact hP) (by rw [← oc_cp_s]; exact hD) hS ls (lv_sub hl [0, 1, 2, 3] rfl)
                    exact lp407 (k + 2) 0 (by omega) (by omega) H locs (by rw [oc_cp_0]; exact hP) (by rw [oc_cp_0]; exact hD) hS ls (lv_sub hl [0, 1, 2, 3] rfl)
                  · -- not taken
                    rw [oc_le (x := nI N) (y := nI j) (a := N) (b := j) rfl rfl (by omega) (by omega)] at c370
                    refine lv_aload_n hx hb dX4_read_373 rfl (lv_at hl 3 rfl) ?_
                    refine va_get (D := D) (ci := 3) (v := .ref (h 3)) (C := RX4) (T := TX4) (N := 27) hx hb hts in_X4 hown hK hP 0 rfl rfl 3 (by decide) (hts _ q810) (fun _ h9 => h9) rfl dX4_read_374 ?_
                    refine lv_iload hx hb dX4_read_377 (lv_at hl 0 rfl) ?_
                    refine lv_aload_n hx hb dX4_read_379 rfl (lv_at hl 3 rfl) ?_
                    refine va_get (D := D) (ci := 3) (v := .ref (h 1)) (C := RX4) (T := TX4) (N := 27) hx hb hts in_X4 hown hK hP 0 rfl rfl 1 (by decide) (hts _ q808) (fun _ h9 => h9) rfl dX4_read_380 ?_
                    refine lv_iload hx hb dX4_read_383 (lv_at hl 0 rfl) ?_
                    refine oc_iald hx hb hK hP 1 0 rfl rfl j rfl (by omega) (by decide) dX4_read_385 ?_
                    refine oc_iast hx hb hK hP hD hS 2 0 rfl rfl j rfl (by omega) (by decide) dX4_read_386 (fun H locs hP hD hS => ?_)
                    have hP : va_P D oc_cl (oc_mW d h (upd (upd I 0 0) 5 (nI k)) (va_up (va_up F 6 T) 3 (upd (oc_cp (F 1) (F 3) j) j ((F 1) j))) L) H := hP
                    have hD : va_D (oc_hA h) (oc_mW d h (upd (upd I 0 0) 5 (nI k)) (va_up (va_up F 6 T) 3 (upd (oc_cp (F 1) (F 3) j) j ((F 1) j))) L) := hD
                    refine lv_iinc (v := nI (j + 1)) (lv' := [(7, .int (nI (j + 1))), (6, .int u2), (5, .int (nI k)), (0, .ref (h 0))]) hx hb dX4_read_387 hl (k := 0) rfl (nI_1 j) (by decide) rfl (fun ls hl => ?_)
                    refine lv_goto (tgt := 364) hx hb dX4_read_390 (by decide) ?_
                    exact ih364 (j + 1) (by omega) (by omega) H locs (by rw [← oc_cp_s]; exact hP) (by rw [← oc_cp_s]; exact hD) hS ls (lv_sub hl [0, 1, 2, 3] rfl)
              exact lp364 (N + 1) 0 (by omega) (by omega) H locs (by rw [oc_cp_0]; exact hP) (by rw [oc_cp_0]; exact hD) hS ls (lv_sub hl [0, 1, 2, 7] rfl)
          · -- up to 348
            refine lv_iload hx hb dX4_read_325 (lv_at hl 1 rfl) ?_
            refine lv_if_ge (tgt := 346) hx hb dX4_read_327 (by decide) (fun c327 => ?_) (fun c327 => ?_)
            · -- taken
              refine lv_iload hx hb dX4_read_346 (lv_at hl 1 rfl) ?_
              exact oc_topi (by first | exact absurd c34 c327 | (rw [eu2]; simp [rd_wr, *])) K348
            · -- not taken
              refine lv_iload_n hx hb dX4_read_330 rfl (lv_at hl 6 rfl) ?_
              refine lv_if_ne (tgt := 339) hx hb dX4_read_331 (by decide) (fun c331 => ?_) (fun c331 => ?_)
              · -- taken
                refine lv_aload_n hx hb dX4_read_339 rfl (lv_at hl 7 rfl) ?_
                refine va_get (D := D) (ci := 3) (v := .int (I 2)) (C := RX4) (T := TX4) (N := 27) hx hb hts in_X4 hown hK hP 0 rfl rfl 2 (by decide) (hts _ q809) (fun _ h9 => h9) rfl dX4_read_340 ?_
                refine oc_topi (x := I 2) (y := nI N) hNs ?_
                refine lv_goto (tgt := 348) hx hb dX4_read_343 (by decide) ?_
                exact oc_topi (by first | exact absurd c34 c327 | (rw [eu2]; simp [rd_wr, *])) K348
              · -- not taken
                refine lv_iload hx hb dX4_read_334 (lv_at hl 2 rfl) ?_
                refine lv_if_ne (tgt := 346) hx hb dX4_read_336 (by decide) (fun c336 => ?_) (fun c336 => ?_)
                · -- taken
                  rw [oc_eq (x := nI k) (y := 0) (a := k) (b := 0) rfl rfl (by omega) (by omega)] at c336
                  refine lv_iload hx hb dX4_read_346 (lv_at hl 1 rfl) ?_
                  exact oc_topi (by first | exact absurd c34 c327 | (rw [eu2]; simp [rd_wr, *])) K348
                · -- not taken
                  rw [oc_eq (x := nI k) (y := 0) (a := k) (b := 0) rfl rfl (by omega) (by omega)] at c336
                  refine lv_aload_n hx hb dX4_read_339 rfl (lv_at hl 7 rfl) ?_
                  refine va_get (D := D) (ci := 3) (v := .int (I 2)) (C := RX4) (T := TX4) (N := 27) hx hb hts in_X4 hown hK hP 0 rfl rfl 2 (by decide) (hts _ q809) (fun _ h9 => h9) rfl dX4_read_340 ?_
                  refine oc_topi (x := I 2) (y := nI N) hNs ?_
                  refine lv_goto (tgt := 348) hx hb dX4_read_343 (by decide) ?_
                  exact oc_topi (by first | exact absurd c34 c327 | (rw [eu2]; simp [rd_wr, *])) K348
        · -- not taken
          refine lv_aload_n hx hb dX4_read_37 rfl (lv_at hl 7 rfl) ?_
          refine va_get (D := D) (ci := 3) (v := .ref (h 1)) (C := RX4) (T := TX4) (N := 27) hx hb hts in_X4 hown hK hP 0 rfl rfl 1 (by decide) (hts _ q808) (fun _ h9 => h9) rfl dX4_read_38 ?_
          refine lv_iload hx hb dX4_read_41 (lv_at hl 0 rfl) ?_
          refine oc_iald hx hb hK hP 1 0 rfl rfl q rfl (by omega) (by decide) dX4_read_43 ?_
          refine lv_istore (lv' := [(8, .int ((F 1) q)), (7, .int (nI q)), (6, .int u), (5, .int (nI k)), (4, .int v), (3, .int g), (2, .int w), (1, .int y), (0, .ref (h 0))]) hx hb dX4_read_44 hl (by decide) rfl (fun ls hl => ?_)
          refine lv_iload hx hb dX4_read_46 (lv_at hl 0 rfl) ?_
          refine oc_callR1 hx hb hml hl.1 ⟨hok, hS, hN0⟩ (oc_iS (As := [.int ((F 1) q)]) (rest := []) hx hb hown (hts _ q907) (hts _ q908) (hts _ q30) (hts _ q909) ⟨by decide, by decide, (by decide +kernel : (parseMethodDescriptor "(I)Z").map (fun d => d.parameters.length) = some 1)⟩ dX4_read_48 rfl) (oc_M.of (by decide +kernel) (hts _ q909)) (kX4_isDigit G ((F 1) q)) dX4_read_48 (Nat.le_of_ble_eq_true rfl) (Nat.le_of_ble_eq_true rfl) (Nat.le_of_ble_eq_true rfl) (Nat.le_of_ble_eq_true rfl) ?_
          refine lv_istore (lv' := [(9, .int (oc_b (oc_dig ((F 1) q)))), (8, .int ((F 1) q)), (7, .int (nI q)), (6, .int u), (5, .int (nI k)), (4, .int v), (3, .int g), (2, .int w), (1, .int y), (0, .ref (h 0))]) hx hb dX4_read_51 hl (by decide) rfl (fun ls hl => ?_)
          refine lv_iconst (v := (-1)) hx hb dX4_read_53 (by decide) ?_
          refine lv_istore (lv' := [(10, .int (-1)), (9, .int (oc_b (oc_dig ((F 1) q)))), (8, .int ((F 1) q)), (7, .int (nI q)), (6, .int u), (5, .int (nI k)), (4, .int v), (3, .int g), (2, .int w), (1, .int y), (0, .ref (h 0))]) hx hb dX4_read_54 hl (by decide) rfl (fun ls hl => ?_)
          have K252 : ∀ (a : Int32) (b : Int32) (t : Int32) (X : Nat → Int32), (a = rd_nx y (F 1 q) w g v k) → (b = rd_g y (F 1 q) g) → (t = rd_v y (F 1 q) g v) → (X = if y = 0 then upd T k (nI q) else T) → ∀ (H : Heap) (locs : List Loc), va_P D oc_cl (oc_mW d h (upd I 0 0) (va_up F 6 X) L) H → va_D (oc_hA h) (oc_mW d h (upd I 0 0) (va_up F 6 X) L) → va_S (oc_hA h) s.heap H locs → ∀ (ls : Array Slot), lv_has ls 12 [(10, .int a), (3, .int b), (4, .int t), (8, .int (F 1 q)), (7, .int (nI q)), (6, .int u), (5, .int (nI k)), (2, .int w), (1, .int y), (0, .ref (h 0))] → W p l e (oc_rm 1 13 0 0) s m ([.ref (h 0)] : List Value).toArray below meth c H locs 0 0 (oc_Q (oc_hA h) below s (oc_Pm D d h (sp_read I F L N))) (F0 m 252 ls []) := by
            intro a b t X e_a e_b e_t e_X H locs hP hD hS ls hl
            subst e_a; subst e_b; subst e_t; subst e_X
            refine oc_cut (g2 := F0 m 264 ls [.int (if 0 ≤ rd_nx y (F 1 q) w g v k then u else nI q)]) ?_ (fun K264 => ?_)
            · -- behind 264
              refine lv_istore (lv' := [(6, .int (if 0 ≤ rd_nx y (F 1 q) w g v k then u else nI q)), (10, .int (rd_nx y (F 1 q) w g v k)), (3, .int (rd_g y (F 1 q) g)), (4, .int (rd_v y (F 1 q) g v)), (8, .int (F 1 q)), (7, .int (nI q)), (5, .int (nI k)), (2, .int w), (1, .int y), (0, .ref (h 0))]) hx hb dX4_read_264 hl (by decide) rfl (fun ls hl => ?_)
              refine lv_iload_n hx hb dX4_read_266 rfl (lv_at hl 7 rfl) ?_
              refine oc_cut (g2 := F0 m 290 ls [.int (if F 1 q = 40 then 1 else if F 1 q = 41 then -1 else 0), .int w]) ?_ (fun K290 => ?_)
              · -- behind 290
                refine lv_iadd hx hb dX4_read_290 ?_
                refine lv_istore_n (lv' := [(2, .int (w + (if F 1 q = 40 then 1 else if F 1 q = 41 then -1 else 0))), (6, .int (if 0 ≤ rd_nx y (F 1 q) w g v k then u else nI q)), (10, .int (rd_nx y (F 1 q) w g v k)), (3, .int (rd_g y (F 1 q) g)), (4, .int (rd_v y (F 1 q) g v)), (8, .int (F 1 q)), (7, .int (nI q)), (5, .int (nI k)), (1, .int y), (0, .ref (h 0))]) hx hb dX4_read_291 rfl hl (by decide) rfl (fun ls hl => ?_)
                refine lv_iload hx hb dX4_read_292 (lv_at hl 7 rfl) ?_
                refine oc_cut (g2 := F0 m 304 ls [.int (if rd_nx y (F 1 q) w g v k = 0 then 1 else 0), .int (nI k)]) ?_ (fun K304 => ?_)
                · -- behind 304
                  refine lv_iadd hx hb dX4_read_304 ?_
                  refine oc_topi (x := (nI k) + (if rd_nx y (F 1 q) w g v k = 0 then 1 else 0)) (y := nI (k + (if rd_nx y (F 1 q) w g v k = 0 then 1 else 0))) (by by_cases z : rd_nx y (F 1 q) w g v k = 0; simp only [z, if_true]; exact nI_1 k; simp only [z, if_false]; exact Int32.add_zero _) ?_
                  refine lv_istore (lv' := [(5, .int (nI (k + (if rd_nx y (F 1 q) w g v k = 0 then 1 else 0)))), (2, .int (w + (if F 1 q = 40 then 1 else if F 1 q = 41 then -1 else 0))), (6, .int (if 0 ≤ rd_nx y (F 1 q) w g v k then u else nI q)), (10, .int (rd_nx y (F 1 q) w g v k)), (3, .int (rd_g y (F 1 q) g)), (4, .int (rd_v y (F 1 q) g v)), (8, .int (F 1 q)), (7, .int (nI q)), (1, .int y), (0, .ref (h 0))]) hx hb dX4_read_305 hl (by decide) rfl (fun ls hl => ?_)
                  refine oc_cut (g2 := F0 m 318 ls [.int (if 0 ≤ rd_nx y (F 1 q) w g v k then rd_nx y (F 1 q) w g v k else y)]) ?_ (fun K318 => ?_)
                  · -- behind 318
                    refine lv_istore_n (lv' := [(1, .int (if 0 ≤ rd_nx y (F 1 q) w g v k then rd_nx y (F 1 q) w g v k else y)), (5, .int (nI (k + (if rd_nx y (F 1 q) w g v k = 0 then 1 else 0)))), (2, .int (w + (if F 1 q = 40 then 1 else if F 1 q = 41 then -1 else 0))), (6, .int (if 0 ≤ rd_nx y (F 1 q) w g v k then u else nI q)), (10, .int (rd_nx y (F 1 q) w g v k)), (3, .int (rd_g y (F 1 q) g)), (4, .int (rd_v y (F 1 q) g v)), (8, .int (F 1 q)), (7, .int (nI q)), (0, .ref (h 0))]) hx hb dX4_read_318 rfl hl (by decide) rfl (fun ls hl => ?_)
                    refine lv_iinc (v := nI (q + 1)) (lv' := [(7, .int (nI (q + 1))), (1, .int (if 0 ≤ rd_nx y (F 1 q) w g v k then rd_nx y (F 1 q) w g v k else y)), (5, .int (nI (k + (if rd_nx y (F 1 q) w g v k = 0 then 1 else 0)))), (2, .int (w + (if F 1 q = 40 then 1 else if F 1 q = 41 then -1 else 0))), (6, .int (if 0 ≤ rd_nx y (F 1 q) w g v k then u else nI q)), (10, .int (rd_nx y (F 1 q) w g v k)), (3, .int (rd_g y (F 1 q) g)), (4, .int (rd_v y (F 1 q) g v)), (8, .int (F 1 q)), (0, .ref (h 0))]) hx hb dX4_read_319 hl (k := 8) rfl (nI_1 q) (by decide) rfl (fun ls hl => ?_)
                    refine lv_goto (tgt := 23) hx hb dX4_read_322 (by decide) ?_
                    exact ih23 (q + 1) (if 0 ≤ rd_nx y (F 1 q) w g v k then rd_nx y (F 1 q) w g v k else y) (w + (if F 1 q = 40 then 1 else if F 1 q = 41 then -1 else 0)) (rd_g y (F 1 q) g) (rd_v y (F 1 q) g v) (k + (if rd_nx y (F 1 q) w g v k = 0 then 1 else 0)) (if 0 ≤ rd_nx y (F 1 q) w g v k then u else nI q) (if y = 0 then upd T k (nI q) else T) (by omega) (by omega) (by show rd_st (F 1) q (rd_it (F 1) (F 6) q) = _; rw [hz]; rfl) (fun j hj => by rcases Nat.lt_or_ge j q with z | z; exact hpre j z; rw [show j = q by omega, hz]; exact c34) H locs hP hD hS ls (lv_sub hl [0, 4, 2, 7, 6, 3, 1, 9] rfl)
                  · -- up to 318
                    refine lv_iload hx hb dX4_read_307 (lv_at hl 3 rfl) ?_
                    refine lv_if_ge (tgt := 316) hx hb dX4_read_309 (by decide) (fun c309 => ?_) (fun c309 => ?_)
                    · -- taken
                      refine lv_iload hx hb dX4_read_316 (lv_at hl 3 rfl) ?_
                      exact oc_topi (by simp [*]) K318
                    · -- not taken
                      refine lv_iload_n hx hb dX4_read_312 rfl (lv_at hl 8 rfl) ?_
                      refine lv_goto (tgt := 318) hx hb dX4_read_313 (by decide) ?_
                      exact oc_topi (by simp [*]) K318
                · -- up to 304
                  refine lv_iload hx hb dX4_read_294 (lv_at hl 2 rfl) ?_
                  refine lv_if_ne (tgt := 303) hx hb dX4_read_296 (by decide) (fun c296 => ?_) (fun c296 => ?_)
                  · -- taken
                    refine lv_iconst (v := 0) hx hb dX4_read_303 (by decide) ?_
                    exact oc_topi (by simp [*]) K304
                  · -- not taken
                    refine lv_iconst (v := 1) hx hb dX4_read_299 (by decide) ?_
                    refine lv_goto (tgt := 304) hx hb dX4_read_300 (by decide) ?_
                    exact oc_topi (by simp [*]) K304
              · -- up to 290
                refine lv_iload hx hb dX4_read_267 (lv_at hl 4 rfl) ?_
                refine lv_bipush (v := 40) hx hb dX4_read_269 (by decide) ?_
                refine lv_icmp_ne (tgt := 278) hx hb dX4_read_271 (by decide) (fun c271 => ?_) (fun c271 => ?_)
                · -- taken
                  refine lv_iload hx hb dX4_read_278 (lv_at hl 4 rfl) ?_
                  refine lv_bipush (v := 41) hx hb dX4_read_280 (by decide) ?_
                  refine lv_icmp_ne (tgt := 289) hx hb dX4_read_282 (by decide) (fun c282 => ?_) (fun c282 => ?_)
                  · -- taken
                    refine lv_iconst (v := 0) hx hb dX4_read_289 (by decide) ?_
                    exact oc_topi (by simp [*]) K290
                  · -- not taken
                    refine lv_iconst (v := (-1)) hx hb dX4_read_285 (by decide) ?_
                    refine lv_goto (tgt := 290) hx hb dX4_read_286 (by decide) ?_
                    exact oc_topi (by simp [*]) K290
                · -- not taken
                  refine lv_iconst (v := 1) hx hb dX4_read_274 (by decide) ?_
                  refine lv_goto (tgt := 290) hx hb dX4_read_275 (by decide) ?_
                  exact oc_topi (by simp [*]) K290
            · -- up to 264
              refine lv_iload hx hb dX4_read_252 (lv_at hl 0 rfl) ?_
              refine lv_if_ge (tgt := 262) hx hb dX4_read_254 (by decide) (fun c254 => ?_) (fun c254 => ?_)
              · -- taken
                refine lv_iload hx hb dX4_read_262 (lv_at hl 5 rfl) ?_
                exact oc_topi (by simp [*]) K264
              · -- not taken
                refine lv_iload hx hb dX4_read_257 (lv_at hl 4 rfl) ?_
                refine lv_goto (tgt := 264) hx hb dX4_read_259 (by decide) ?_
                exact oc_topi (by simp [*]) K264
          refine lv_iload_n hx hb dX4_read_56 rfl (lv_at hl 9 rfl) ?_
          refine lv_if_ne (tgt := 64) hx hb dX4_read_57 (by decide) (fun c57 => ?_) (fun c57 => ?_)
          · -- taken
            refine lv_iconst (v := 0) hx hb dX4_read_64 (by decide) ?_
            refine lv_istore (lv' := [(11, .int 0), (10, .int (-1)), (9, .int (oc_b (oc_dig ((F 1) q)))), (8, .int ((F 1) q)), (7, .int (nI q)), (6, .int u), (5, .int (nI k)), (4, .int v), (3, .int g), (2, .int w), (1, .int y), (0, .ref (h 0))]) hx hb dX4_read_65 hl (by decide) rfl (fun ls hl => ?_)
            refine lv_iload hx hb dX4_read_67 (lv_at hl 0 rfl) ?_
            refine lv_if_eq (tgt := 105) hx hb dX4_read_69 (by decide) (fun c69 => ?_) (fun c69 => ?_)
            · -- taken
              refine lv_iload_n hx hb dX4_read_105 rfl (lv_at hl 10 rfl) ?_
              refine lv_iconst (v := 1) hx hb dX4_read_106 (by decide) ?_
              refine lv_icmp_ne (tgt := 145) hx hb dX4_read_107 (by decide) (fun c107 => ?_) (fun c107 => ?_)
              · -- taken
                refine lv_iload_n hx hb dX4_read_145 rfl (lv_at hl 10 rfl) ?_
                refine lv_iconst (v := 2) hx hb dX4_read_146 (by decide) ?_
                refine lv_icmp_ne (tgt := 166) hx hb dX4_read_147 (by decide) (fun c147 => ?_) (fun c147 => ?_)
                · -- taken
                  refine lv_iload_n hx hb dX4_read_166 rfl (lv_at hl 10 rfl) ?_
                  refine lv_iconst (v := 3) hx hb dX4_read_167 (by decide) ?_
                  refine lv_icmp_ne (tgt := 182) hx hb dX4_read_168 (by decide) (fun c168 => ?_) (fun c168 => ?_)
                  · -- taken
                    refine lv_iload hx hb dX4_read_182 (lv_at hl 2 rfl) ?_
                    refine lv_if_eq (tgt := 223) hx hb dX4_read_184 (by decide) (fun c184 => ?_) (fun c184 => ?_)
                    · -- taken
                      rw [oc_b0] at c184
                      refine lv_iload_n hx hb dX4_read_223 rfl (lv_at hl 8 rfl) ?_
                      refine lv_if_le (tgt := 252) hx hb dX4_read_224 (by decide) (fun c224 => ?_) (fun c224 => ?_)
                      · -- taken
                        exact K252 (-1) g v T (by first | rfl | (simp [rd_nx, *]; done) | (simp_all [rd_nx]; done)) (by first | rfl | (simp [rd_g, *]; done) | (simp_all [rd_g]; done)) (by first | rfl | (simp [rd_v, *]; done) | (simp_all [rd_v]; done)) (by simp [*]) H locs hP hD hS ls (lv_sub hl [1, 8, 7, 3, 4, 5, 6, 9, 10, 11] rfl)
                      · -- not taken
                        refine lv_iload hx hb dX4_read_227 (lv_at hl 7 rfl) ?_
                        refine lv_iload_n hx hb dX4_read_229 rfl (lv_at hl 10 rfl) ?_
                        refine lv_iconst (v := 4) hx hb dX4_read_230 (by decide) ?_
                        refine lv_icmp_ne (tgt := 239) hx hb dX4_read_231 (by decide) (fun c231 => ?_) (fun c231 => ?_)
                        · -- taken
                          refine lv_bipush (v := 15) hx hb dX4_read_239 (by decide) ?_
                          refine lv_icmp_gt (tgt := 252) hx hb dX4_read_241 (by decide) (fun c241 => ?_) (fun c241 => ?_)
                          · -- taken
                            exact K252 (-1) g v T (by first | rfl | (simp [rd_nx, *]; done) | (simp_all [rd_nx]; done)) (by first | rfl | (simp [rd_g, *]; done) | (simp_all [rd_g]; done)) (by first | rfl | (simp [rd_v, *]; done) | (simp_all [rd_v]; done)) (by simp [*]) H locs hP hD hS ls (lv_sub hl [1, 8, 7, 3, 4, 5, 6, 9, 10, 11] rfl)
                          · -- not taken
                            refine lv_iload hx hb dX4_read_244 (lv_at hl 3 rfl) ?_
                            refine lv_iload_n hx hb dX4_read_246 rfl (lv_at hl 9 rfl) ?_
                            refine oc_callR1 hx hb hml hl.1 ⟨hok, hS, hN0⟩ (oc_iS (As := [.int ((F 1) q), .int w]) (rest := []) hx hb hown (hts _ q913) (hts _ q914) (hts _ q30) (hts _ q915) ⟨by decide, by decide, (by decide +kernel : (parseMethodDescriptor "(II)I").map (fun d => d.parameters.length) = some 2)⟩ dX4_read_247 rfl) (oc_M.of (by decide +kernel) (hts _ q915)) (kX4_behind G ((F 1) q) w) dX4_read_247 (Nat.le_of_ble_eq_true rfl) (Nat.le_of_ble_eq_true rfl) (Nat.le_of_ble_eq_true rfl) (Nat.le_of_ble_eq_true rfl) ?_
                            refine lv_istore (lv' := [(10, .int (oc_beh ((F 1) q) w)), (11, .int 0), (9, .int (oc_b (oc_dig ((F 1) q)))), (8, .int ((F 1) q)), (7, .int (nI q)), (6, .int u), (5, .int (nI k)), (4, .int v), (3, .int g), (2, .int w), (1, .int y), (0, .ref (h 0))]) hx hb dX4_read_250 hl (by decide) rfl (fun ls hl => ?_)
                            exact K252 (oc_beh ((F 1) q) w) g v T (by first | rfl | (simp [rd_nx, *]; done) | (simp_all [rd_nx]; done)) (by first | rfl | (simp [rd_g, *]; done) | (simp_all [rd_g]; done)) (by first | rfl | (simp [rd_v, *]; done) | (simp_all [rd_v]; done)) (by simp [*]) H locs hP hD hS ls (lv_sub hl [0, 8, 7, 3, 4, 5, 6, 9, 10, 11] rfl)
                        · -- not taken
                          refine lv_bipush (v := 100) hx hb dX4_read_234 (by decide) ?_
                          refine lv_goto (tgt := 241) hx hb dX4_read_236 (by decide) ?_
                          refine lv_icmp_gt (tgt := 252) hx hb dX4_read_241 (by decide) (fun c241 => ?_) (fun c241 => ?_)
                          · -- taken
                            exact K252 (-1) g v T (by first | rfl | (simp [rd_nx, *]; done) | (simp_all [rd_nx]; done)) (by first | rfl | (simp [rd_g, *]; done) | (simp_all [rd_g]; done)) (by first | rfl | (simp [rd_v, *]; done) | (simp_all [rd_v]; done)) (by simp [*]) H locs hP hD hS ls (lv_sub hl [1, 8, 7, 3, 4, 5, 6, 9, 10, 11] rfl)
                          · -- not taken
                            refine lv_iload hx hb dX4_read_244 (lv_at hl 3 rfl) ?_
                            refine lv_iload_n hx hb dX4_read_246 rfl (lv_at hl 9 rfl) ?_
                            refine oc_callR1 hx hb hml hl.1 ⟨hok, hS, hN0⟩ (oc_iS (As := [.int ((F 1) q), .int w]) (rest := []) hx hb hown (hts _ q913) (hts _ q914) (hts _ q30) (hts _ q915) ⟨by decide, by decide, (by decide +kernel : (parseMethodDescriptor "(II)I").map (fun d => d.parameters.length) = some 2)⟩ dX4_read_247 rfl) (oc_M.of (by decide +kernel) (hts _ q915)) (kX4_behind G ((F 1) q) w) dX4_read_247 (Nat.le_of_ble_eq_true rfl) (Nat.le_of_ble_eq_true rfl) (Nat.le_of_ble_eq_true rfl) (Nat.le_of_ble_eq_true rfl) ?_
                            refine lv_istore (lv' := [(10, .int (oc_beh ((F 1) q) w)), (11, .int 0), (9, .int (oc_b (oc_dig ((F 1) q)))), (8, .int ((F 1) q)), (7, .int (nI q)), (6, .int u), (5, .int (nI k)), (4, .int v), (3, .int g), (2, .int w), (1, .int y), (0, .ref (h 0))]) hx hb dX4_read_250 hl (by decide) rfl (fun ls hl => ?_)
                            exact K252 (oc_beh ((F 1) q) w) g v T (by first | rfl | (simp [rd_nx, *]; done) | (simp_all [rd_nx]; done)) (by first | rfl | (simp [rd_g, *]; done) | (simp_all [rd_g]; done)) (by first | rfl | (simp [rd_v, *]; done) | (simp_all [rd_v]; done)) (by simp [*]) H locs hP hD hS ls (lv_sub hl [0, 8, 7, 3, 4, 5, 6, 9, 10, 11] rfl)
                    · -- not taken
                      rw [oc_b0] at c184
                      rw [Bool.not_eq_false] at c184
                      refine lv_iload_n hx hb dX4_read_187 rfl (lv_at hl 8 rfl) ?_
                      refine lv_iload_n hx hb dX4_read_188 rfl (lv_at hl 10 rfl) ?_
                      refine lv_iconst (v := 4) hx hb dX4_read_189 (by decide) ?_
                      refine lv_icmp_ne (tgt := 197) hx hb dX4_read_190 (by decide) (fun c190 => ?_) (fun c190 => ?_)
                      · -- taken
                        refine lv_iconst (v := 2) hx hb dX4_read_197 (by decide) ?_
                        refine lv_icmp_ge (tgt := 223) hx hb dX4_read_198 (by decide) (fun c198 => ?_) (fun c198 => ?_)
                        · -- taken
                          refine lv_iload_n hx hb dX4_read_223 rfl (lv_at hl 8 rfl) ?_
                          refine lv_if_le (tgt := 252) hx hb dX4_read_224 (by decide) (fun c224 => ?_) (fun c224 => ?_)
                          · -- taken
                            exact K252 (-1) g v T (by first | rfl | (simp [rd_nx, *]; done) | (simp_all [rd_nx]; done)) (by first | rfl | (simp [rd_g, *]; done) | (simp_all [rd_g]; done)) (by first | rfl | (simp [rd_v, *]; done) | (simp_all [rd_v]; done)) (by simp [*]) H locs hP hD hS ls (lv_sub hl [1, 8, 7, 3, 4, 5, 6, 9, 10, 11] rfl)
                          · -- not taken
                            refine lv_iload hx hb dX4_read_227 (lv_at hl 7 rfl) ?_
                            refine lv_iload_n hx hb dX4_read_229 rfl (lv_at hl 10 rfl) ?_
                            refine lv_iconst (v := 4) hx hb dX4_read_230 (by decide) ?_
                            refine lv_icmp_ne (tgt := 239) hx hb dX4_read_231 (by decide) (fun c231 => ?_) (fun c231 => ?_)
                            · -- taken
                              refine lv_bipush (v := 15) hx hb dX4_read_239 (by decide) ?_
                              refine lv_icmp_gt (tgt := 252) hx hb dX4_read_241 (by decide) (fun c241 => ?_) (fun c241 => ?_)
                              · -- taken
                                exact K252 (-1) g v T (by first | rfl | (simp [rd_nx, *]; done) | (simp_all [rd_nx]; done)) (by first | rfl | (simp [rd_g, *]; done) | (simp_all [rd_g]; done)) (by first | rfl | (simp [rd_v, *]; done) | (simp_all [rd_v]; done)) (by simp [*]) H locs hP hD hS ls (lv_sub hl [1, 8, 7, 3, 4, 5, 6, 9, 10, 11] rfl)
                              · -- not taken
                                refine lv_iload hx hb dX4_read_244 (lv_at hl 3 rfl) ?_
                                refine lv_iload_n hx hb dX4_read_246 rfl (lv_at hl 9 rfl) ?_
                                refine oc_callR1 hx hb hml hl.1 ⟨hok, hS, hN0⟩ (oc_iS (As := [.int ((F 1) q), .int w]) (rest := []) hx hb hown (hts _ q913) (hts _ q914) (hts _ q30) (hts _ q915) ⟨by decide, by decide, (by decide +kernel : (parseMethodDescriptor "(II)I").map (fun d => d.parameters.length) = some 2)⟩ dX4_read_247 rfl) (oc_M.of (by decide +kernel) (hts _ q915)) (kX4_behind G ((F 1) q) w) dX4_read_247 (Nat.le_of_ble_eq_true rfl) (Nat.le_of_ble_eq_true rfl) (Nat.le_of_ble_eq_true rfl) (Nat.le_of_ble_eq_true rfl) ?_
                                refine lv_istore (lv' := [(10, .int (oc_beh ((F 1) q) w)), (11, .int 0), (9, .int (oc_b (oc_dig ((F 1) q)))), (8, .int ((F 1) q)), (7, .int (nI q)), (6, .int u), (5, .int (nI k)), (4, .int v), (3, .int g), (2, .int w), (1, .int y), (0, .ref (h 0))]) hx hb dX4_read_250 hl (by decide) rfl (fun ls hl => ?_)
                                exact K252 (oc_beh ((F 1) q) w) g v T (by first | rfl | (simp [rd_nx, *]; done) | (simp_all [rd_nx]; done)) (by first | rfl | (simp [rd_g, *]; done) | (simp_all [rd_g]; done)) (by first | rfl | (simp [rd_v, *]; done) | (simp_all [rd_v]; done)) (by simp [*]) H locs hP hD hS ls (lv_sub hl [0, 8, 7, 3, 4, 5, 6, 9, 10, 11] rfl)
                            · -- not taken
                              refine lv_bipush (v := 100) hx hb dX4_read_234 (by decide) ?_
                              refine lv_goto (tgt := 241) hx hb dX4_read_236 (by decide) ?_
                              refine lv_icmp_gt (tgt := 252) hx hb dX4_read_241 (by decide) (fun c241 => ?_) (fun c241 => ?_)
                              · -- taken
                                exact K252 (-1) g v T (by first | rfl | (simp [rd_nx, *]; done) | (simp_all [rd_nx]; done)) (by first | rfl | (simp [rd_g, *]; done) | (simp_all [rd_g]; done)) (by first | rfl | (simp [rd_v, *]; done) | (simp_all [rd_v]; done)) (by simp [*]) H locs hP hD hS ls (lv_sub hl [1, 8, 7, 3, 4, 5, 6, 9, 10, 11] rfl)
                              · -- not taken
                                refine lv_iload hx hb dX4_read_244 (lv_at hl 3 rfl) ?_
                                refine lv_iload_n hx hb dX4_read_246 rfl (lv_at hl 9 rfl) ?_
                                refine oc_callR1 hx hb hml hl.1 ⟨hok, hS, hN0⟩ (oc_iS (As := [.int ((F 1) q), .int w]) (rest := []) hx hb hown (hts _ q913) (hts _ q914) (hts _ q30) (hts _ q915) ⟨by decide, by decide, (by decide +kernel : (parseMethodDescriptor "(II)I").map (fun d => d.parameters.length) = some 2)⟩ dX4_read_247 rfl) (oc_M.of (by decide +kernel) (hts _ q915)) (kX4_behind G ((F 1) q) w) dX4_read_247 (Nat.le_of_ble_eq_true rfl) (Nat.le_of_ble_eq_true rfl) (Nat.le_of_ble_eq_true rfl) (Nat.le_of_ble_eq_true rfl) ?_
                                refine lv_istore (lv' := [(10, .int (oc_beh ((F 1) q) w)), (11, .int 0), (9, .int (oc_b (oc_dig ((F 1) q)))), (8, .int ((F 1) q)), (7, .int (nI q)), (6, .int u), (5, .int (nI k)), (4, .int v), (3, .int g), (2, .int w), (1, .int y), (0, .ref (h 0))]) hx hb dX4_read_250 hl (by decide) rfl (fun ls hl => ?_)
                                exact K252 (oc_beh ((F 1) q) w) g v T (by first | rfl | (simp [rd_nx, *]; done) | (simp_all [rd_nx]; done)) (by first | rfl | (simp [rd_g, *]; done) | (simp_all [rd_g]; done)) (by first | rfl | (simp [rd_v, *]; done) | (simp_all [rd_v]; done)) (by simp [*]) H locs hP hD hS ls (lv_sub hl [0, 8, 7, 3, 4, 5, 6, 9, 10, 11] rfl)
                        · -- not taken
                          refine lv_iload_n hx hb dX4_read_201 rfl (lv_at hl 10 rfl) ?_
                          refine lv_istore (lv' := [(10, .int y), (11, .int 0), (9, .int (oc_b (oc_dig ((F 1) q)))), (8, .int ((F 1) q)), (7, .int (nI q)), (6, .int u), (5, .int (nI k)), (4, .int v), (3, .int g), (2, .int w), (1, .int y), (0, .ref (h 0))]) hx hb dX4_read_202 hl (by decide) rfl (fun ls hl => ?_)
                          refine lv_iinc (v := g + 1) (lv' := [(3, .int (g + 1)), (10, .int y), (11, .int 0), (9, .int (oc_b (oc_dig ((F 1) q)))), (8, .int ((F 1) q)), (7, .int (nI q)), (6, .int u), (5, .int (nI k)), (4, .int v), (2, .int w), (1, .int y), (0, .ref (h 0))]) hx hb dX4_read_204 hl (k := 8) rfl rfl (by decide) rfl (fun ls hl => ?_)
                          refine lv_bipush (v := 10) hx hb dX4_read_207 (by decide) ?_
                          refine lv_iload hx hb dX4_read_209 (lv_at hl 8 rfl) ?_
                          refine lv_imul hx hb dX4_read_211 ?_
                          refine lv_iload hx hb dX4_read_212 (lv_at hl 4 rfl) ?_
                          refine lv_iadd hx hb dX4_read_214 ?_
                          refine lv_bipush (v := 48) hx hb dX4_read_215 (by decide) ?_
                          refine lv_isub hx hb dX4_read_217 ?_
                          refine lv_istore (lv' := [(4, .int (((10 * v) + ((F 1) q)) - 48)), (3, .int (g + 1)), (10, .int y), (11, .int 0), (9, .int (oc_b (oc_dig ((F 1) q)))), (8, .int ((F 1) q)), (7, .int (nI q)), (6, .int u), (5, .int (nI k)), (2, .int w), (1, .int y), (0, .ref (h 0))]) hx hb dX4_read_218 hl (by decide) rfl (fun ls hl => ?_)
                          refine lv_goto (tgt := 252) hx hb dX4_read_220 (by decide) ?_
                          exact K252 y (g + 1) (((10 * v) + ((F 1) q)) - 48) T (by first | rfl | (simp [rd_nx, *]; done) | (simp_all [rd_nx]; done)) (by first | rfl | (simp [rd_g, *]; done) | (simp_all [rd_g]; done)) (by first | rfl | (simp [rd_v, *]; done) | (simp_all [rd_v]; done)) (by simp [*]) H locs hP hD hS ls (lv_sub hl [2, 1, 0, 5, 6, 7, 8, 9, 10, 11] rfl)
                      · -- not taken
                        refine lv_iconst (v := 3) hx hb dX4_read_193 (by decide) ?_
                        refine lv_goto (tgt := 198) hx hb dX4_read_194 (by decide) ?_
                        refine lv_icmp_ge (tgt := 223) hx hb dX4_read_198 (by decide) (fun c198 => ?_) (fun c198 => ?_)
                        · -- taken
                          refine lv_iload_n hx hb dX4_read_223 rfl (lv_at hl 8 rfl) ?_
                          refine lv_if_le (tgt := 252) hx hb dX4_read_224 (by decide) (fun c224 => ?_) (fun c224 => ?_)
                          · -- taken
                            exact K252 (-1) g v T (by first | rfl | (simp [rd_nx, *]; done) | (simp_all [rd_nx]; done)) (by first | rfl | (simp [rd_g, *]; done) | (simp_all [rd_g]; done)) (by first | rfl | (simp [rd_v, *]; done) | (simp_all [rd_v]; done)) (by simp [*]) H locs hP hD hS ls (lv_sub hl [1, 8, 7, 3, 4, 5, 6, 9, 10, 11] rfl)
                          · -- not taken
                            refine lv_iload hx hb dX4_read_227 (lv_at hl 7 rfl) ?_
                            refine lv_iload_n hx hb dX4_read_229 rfl (lv_at hl 10 rfl) ?_
                            refine lv_iconst (v := 4) hx hb dX4_read_230 (by decide) ?_
                            refine lv_icmp_ne (tgt := 239) hx hb dX4_read_231 (by decide) (fun c231 => ?_) (fun c231 => ?_)
                            · -- taken
                              refine lv_bipush (v := 15) hx hb dX4_read_239 (by decide) ?_
                              refine lv_icmp_gt (tgt := 252) hx hb dX4_read_241 (by decide) (fun c241 => ?_) (fun c241 => ?_)
                              · -- taken
                                exact K252 (-1) g v T (by first | rfl | (simp [rd_nx, *]; done) | (simp_all [rd_nx]; done)) (by first | rfl | (simp [rd_g, *]; done) | (simp_all [rd_g]; done)) (by first | rfl | (simp [rd_v, *]; done) | (simp_all [rd_v]; done)) (by simp [*]) H locs hP hD hS ls (lv_sub hl [1, 8, 7, 3, 4, 5, 6, 9, 10, 11] rfl)
                              · -- not taken
                                refine lv_iload hx hb dX4_read_244 (lv_at hl 3 rfl) ?_
                                refine lv_iload_n hx hb dX4_read_246 rfl (lv_at hl 9 rfl) ?_
                                refine oc_callR1 hx hb hml hl.1 ⟨hok, hS, hN0⟩ (oc_iS (As := [.int ((F 1) q), .int w]) (rest := []) hx hb hown (hts _ q913) (hts _ q914) (hts _ q30) (hts _ q915) ⟨by decide, by decide, (by decide +kernel : (parseMethodDescriptor "(II)I").map (fun d => d.parameters.length) = some 2)⟩ dX4_read_247 rfl) (oc_M.of (by decide +kernel) (hts _ q915)) (kX4_behind G ((F 1) q) w) dX4_read_247 (Nat.le_of_ble_eq_true rfl) (Nat.le_of_ble_eq_true rfl) (Nat.le_of_ble_eq_true rfl) (Nat.le_of_ble_eq_true rfl) ?_
                                refine lv_istore (lv' := [(10, .int (oc_beh ((F 1) q) w)), (11, .int 0), (9, .int (oc_b (oc_dig ((F 1) q)))), (8, .int ((F 1) q)), (7, .int (nI q)), (6, .int u), (5, .int (nI k)), (4, .int v), (3, .int g), (2, .int w), (1, .int y), (0, .ref (h 0))]) hx hb dX4_read_250 hl (by decide) rfl (fun ls hl => ?_)
                                exact K252 (oc_beh ((F 1) q) w) g v T (by first | rfl | (simp [rd_nx, *]; done) | (simp_all [rd_nx]; done)) (by first | rfl | (simp [rd_g, *]; done) | (simp_all [rd_g]; done)) (by first | rfl | (simp [rd_v, *]; done) | (simp_all [rd_v]; done)) (by simp [*]) H locs hP hD hS ls (lv_sub hl [0, 8, 7, 3, 4, 5, 6, 9, 10, 11] rfl)
                            · -- not taken
                              refine lv_bipush (v := 100) hx hb dX4_read_234 (by decide) ?_
                              refine lv_goto (tgt := 241) hx hb dX4_read_236 (by decide) ?_
                              refine lv_icmp_gt (tgt := 252) hx hb dX4_read_241 (by decide) (fun c241 => ?_) (fun c241 => ?_)
                              · -- taken
                                exact K252 (-1) g v T (by first | rfl | (simp [rd_nx, *]; done) | (simp_all [rd_nx]; done)) (by first | rfl | (simp [rd_g, *]; done) | (simp_all [rd_g]; done)) (by first | rfl | (simp [rd_v, *]; done) | (simp_all [rd_v]; done)) (by simp [*]) H locs hP hD hS ls (lv_sub hl [1, 8, 7, 3, 4, 5, 6, 9, 10, 11] rfl)
                              · -- not taken
                                refine lv_iload hx hb dX4_read_244 (lv_at hl 3 rfl) ?_
                                refine lv_iload_n hx hb dX4_read_246 rfl (lv_at hl 9 rfl) ?_
                                refine oc_callR1 hx hb hml hl.1 ⟨hok, hS, hN0⟩ (oc_iS (As := [.int ((F 1) q), .int w]) (rest := []) hx hb hown (hts _ q913) (hts _ q914) (hts _ q30) (hts _ q915) ⟨by decide, by decide, (by decide +kernel : (parseMethodDescriptor "(II)I").map (fun d => d.parameters.length) = some 2)⟩ dX4_read_247 rfl) (oc_M.of (by decide +kernel) (hts _ q915)) (kX4_behind G ((F 1) q) w) dX4_read_247 (Nat.le_of_ble_eq_true rfl) (Nat.le_of_ble_eq_true rfl) (Nat.le_of_ble_eq_true rfl) (Nat.le_of_ble_eq_true rfl) ?_
                                refine lv_istore (lv' := [(10, .int (oc_beh ((F 1) q) w)), (11, .int 0), (9, .int (oc_b (oc_dig ((F 1) q)))), (8, .int ((F 1) q)), (7, .int (nI q)), (6, .int u), (5, .int (nI k)), (4, .int v), (3, .int g), (2, .int w), (1, .int y), (0, .ref (h 0))]) hx hb dX4_read_250 hl (by decide) rfl (fun ls hl => ?_)
                                exact K252 (oc_beh ((F 1) q) w) g v T (by first | rfl | (simp [rd_nx, *]; done) | (simp_all [rd_nx]; done)) (by first | rfl | (simp [rd_g, *]; done) | (simp_all [rd_g]; done)) (by first | rfl | (simp [rd_v, *]; done) | (simp_all [rd_v]; done)) (by simp [*]) H locs hP hD hS ls (lv_sub hl [0, 8, 7, 3, 4, 5, 6, 9, 10, 11] rfl)
                        · -- not taken
                          refine lv_iload_n hx hb dX4_read_201 rfl (lv_at hl 10 rfl) ?_
                          refine lv_istore (lv' := [(10, .int y), (11, .int 0), (9, .int (oc_b (oc_dig ((F 1) q)))), (8, .int ((F 1) q)), (7, .int (nI q)), (6, .int u), (5, .int (nI k)), (4, .int v), (3, .int g), (2, .int w), (1, .int y), (0, .ref (h 0))]) hx hb dX4_read_202 hl (by decide) rfl (fun ls hl => ?_)
                          refine lv_iinc (v := g + 1) (lv' := [(3, .int (g + 1)), (10, .int y), (11, .int 0), (9, .int (oc_b (oc_dig ((F 1) q)))), (8, .int ((F 1) q)), (7, .int (nI q)), (6, .int u), (5, .int (nI k)), (4, .int v), (2, .int w), (1, .int y), (0, .ref (h 0))]) hx hb dX4_read_204 hl (k := 8) rfl rfl (by decide) rfl (fun ls hl => ?_)
                          refine lv_bipush (v := 10) hx hb dX4_read_207 (by decide) ?_
                          refine lv_iload hx hb dX4_read_209 (lv_at hl 8 rfl) ?_
                          refine lv_imul hx hb dX4_read_211 ?_
                          refine lv_iload hx hb dX4_read_212 (lv_at hl 4 rfl) ?_
                          refine lv_iadd hx hb dX4_read_214 ?_
                          refine lv_bipush (v := 48) hx hb dX4_read_215 (by decide) ?_
                          refine lv_isub hx hb dX4_read_217 ?_
                          refine lv_istore (lv' := [(4, .int (((10 * v) + ((F 1) q)) - 48)), (3, .int (g + 1)), (10, .int y), (11, .int 0), (9, .int (oc_b (oc_dig ((F 1) q)))), (8, .int ((F 1) q)), (7, .int (nI q)), (6, .int u), (5, .int (nI k)), (2, .int w), (1, .int y), (0, .ref (h 0))]) hx hb dX4_read_218 hl (by decide) rfl (fun ls hl => ?_)
                          refine lv_goto (tgt := 252) hx hb dX4_read_220 (by decide) ?_
                          exact K252 y (g + 1) (((10 * v) + ((F 1) q)) - 48) T (by first | rfl | (simp [rd_nx, *]; done) | (simp_all [rd_nx]; done)) (by first | rfl | (simp [rd_g, *]; done) | (simp_all [rd_g]; done)) (by first | rfl | (simp [rd_v, *]; done) | (simp_all [rd_v]; done)) (by simp [*]) H locs hP hD hS ls (lv_sub hl [2, 1, 0, 5, 6, 7, 8, 9, 10, 11] rfl)
                  · -- not taken
                    refine lv_iload hx hb dX4_read_171 (lv_at hl 3 rfl) ?_
                    refine lv_iload_n hx hb dX4_read_173 rfl (lv_at hl 9 rfl) ?_
                    refine oc_callR1 hx hb hml hl.1 ⟨hok, hS, hN0⟩ (oc_iS (As := [.int ((F 1) q), .int w]) (rest := []) hx hb hown (hts _ q913) (hts _ q914) (hts _ q30) (hts _ q915) ⟨by decide, by decide, (by decide +kernel : (parseMethodDescriptor "(II)I").map (fun d => d.parameters.length) = some 2)⟩ dX4_read_174 rfl) (oc_M.of (by decide +kernel) (hts _ q915)) (kX4_behind G ((F 1) q) w) dX4_read_174 (Nat.le_of_ble_eq_true rfl) (Nat.le_of_ble_eq_true rfl) (Nat.le_of_ble_eq_true rfl) (Nat.le_of_ble_eq_true rfl) ?_
                    refine lv_istore (lv' := [(10, .int (oc_beh ((F 1) q) w)), (11, .int 0), (9, .int (oc_b (oc_dig ((F 1) q)))), (8, .int ((F 1) q)), (7, .int (nI q)), (6, .int u), (5, .int (nI k)), (4, .int v), (3, .int g), (2, .int w), (1, .int y), (0, .ref (h 0))]) hx hb dX4_read_177 hl (by decide) rfl (fun ls hl => ?_)
                    refine lv_goto (tgt := 252) hx hb dX4_read_179 (by decide) ?_
                    exact K252 (oc_beh ((F 1) q) w) g v T (by first | rfl | (simp [rd_nx, *]; done) | (simp_all [rd_nx]; done)) (by first | rfl | (simp [rd_g, *]; done) | (simp_all [rd_g]; done)) (by first | rfl | (simp [rd_v, *]; done) | (simp_all [rd_v]; done)) (by simp [*]) H locs hP hD hS ls (lv_sub hl [0, 8, 7, 3, 4, 5, 6, 9, 10, 11] rfl)
                · -- not taken
                  refine lv_iload hx hb dX4_read_150 (lv_at hl 3 rfl) ?_
                  refine lv_iload_n hx hb dX4_read_152 rfl (lv_at hl 9 rfl) ?_
                  refine oc_callR1 hx hb hml hl.1 ⟨hok, hS, hN0⟩ (oc_iS (As := [.int ((F 1) q), .int w]) (rest := []) hx hb hown (hts _ q910) (hts _ q911) (hts _ q30) (hts _ q912) ⟨by decide, by decide, (by decide +kernel : (parseMethodDescriptor "(II)I").map (fun d => d.parameters.length) = some 2)⟩ dX4_read_153 rfl) (oc_M.of (by decide +kernel) (hts _ q912)) (kX4_ahead G ((F 1) q) w) dX4_read_153 (Nat.le_of_ble_eq_true rfl) (Nat.le_of_ble_eq_true rfl) (Nat.le_of_ble_eq_true rfl) (Nat.le_of_ble_eq_true rfl) ?_
                  refine lv_istore (lv' := [(10, .int (oc_ahd ((F 1) q) w)), (11, .int 0), (9, .int (oc_b (oc_dig ((F 1) q)))), (8, .int ((F 1) q)), (7, .int (nI q)), (6, .int u), (5, .int (nI k)), (4, .int v), (3, .int g), (2, .int w), (1, .int y), (0, .ref (h 0))]) hx hb dX4_read_156 hl (by decide) rfl (fun ls hl => ?_)
                  refine lv_iconst (v := 0) hx hb dX4_read_158 (by decide) ?_
                  refine lv_istore_n (lv' := [(3, .int 0), (10, .int (oc_ahd ((F 1) q) w)), (11, .int 0), (9, .int (oc_b (oc_dig ((F 1) q)))), (8, .int ((F 1) q)), (7, .int (nI q)), (6, .int u), (5, .int (nI k)), (4, .int v), (2, .int w), (1, .int y), (0, .ref (h 0))]) hx hb dX4_read_159 rfl hl (by decide) rfl (fun ls hl => ?_)
                  refine lv_iconst (v := 0) hx hb dX4_read_160 (by decide) ?_
                  refine lv_istore (lv' := [(4, .int 0), (3, .int 0), (10, .int (oc_ahd ((F 1) q) w)), (11, .int 0), (9, .int (oc_b (oc_dig ((F 1) q)))), (8, .int ((F 1) q)), (7, .int (nI q)), (6, .int u), (5, .int (nI k)), (2, .int w), (1, .int y), (0, .ref (h 0))]) hx hb dX4_read_161 hl (by decide) rfl (fun ls hl => ?_)
                  refine lv_goto (tgt := 252) hx hb dX4_read_163 (by decide) ?_
                  exact K252 (oc_ahd ((F 1) q) w) 0 0 T (by first | rfl | (simp [rd_nx, *]; done) | (simp_all [rd_nx]; done)) (by first | rfl | (simp [rd_g, *]; done) | (simp_all [rd_g]; done)) (by first | rfl | (simp [rd_v, *]; done) | (simp_all [rd_v]; done)) (by simp [*]) H locs hP hD hS ls (lv_sub hl [2, 1, 0, 5, 6, 7, 8, 9, 10, 11] rfl)
              · -- not taken
                refine lv_iload hx hb dX4_read_110 (lv_at hl 2 rfl) ?_
                refine lv_if_eq (tgt := 125) hx hb dX4_read_112 (by decide) (fun c112 => ?_) (fun c112 => ?_)
                · -- taken
                  rw [oc_b0] at c112
                  refine lv_iload hx hb dX4_read_125 (lv_at hl 3 rfl) ?_
                  refine lv_bipush (v := 58) hx hb dX4_read_127 (by decide) ?_
                  refine lv_icmp_ne (tgt := 136) hx hb dX4_read_129 (by decide) (fun c129 => ?_) (fun c129 => ?_)
                  · -- taken
                    refine lv_iconst (v := (-1)) hx hb dX4_read_136 (by decide) ?_
                    refine lv_istore (lv' := [(10, .int (-1)), (11, .int 0), (9, .int (oc_b (oc_dig ((F 1) q)))), (8, .int ((F 1) q)), (7, .int (nI q)), (6, .int u), (5, .int (nI k)), (4, .int v), (3, .int g), (2, .int w), (1, .int y), (0, .ref (h 0))]) hx hb dX4_read_137 hl (by decide) rfl (fun ls hl => ?_)
                    refine lv_iinc (v := g + 1) (lv' := [(3, .int (g + 1)), (10, .int (-1)), (11, .int 0), (9, .int (oc_b (oc_dig ((F 1) q)))), (8, .int ((F 1) q)), (7, .int (nI q)), (6, .int u), (5, .int (nI k)), (4, .int v), (2, .int w), (1, .int y), (0, .ref (h 0))]) hx hb dX4_read_139 hl (k := 8) rfl rfl (by decide) rfl (fun ls hl => ?_)
                    refine lv_goto (tgt := 252) hx hb dX4_read_142 (by decide) ?_
                    exact K252 (-1) (g + 1) v T (by first | rfl | (simp [rd_nx, *]; done) | (simp_all [rd_nx]; done)) (by first | rfl | (simp [rd_g, *]; done) | (simp_all [rd_g]; done)) (by first | rfl | (simp [rd_v, *]; done) | (simp_all [rd_v]; done)) (by simp [*]) H locs hP hD hS ls (lv_sub hl [1, 0, 8, 4, 5, 6, 7, 9, 10, 11] rfl)
                  · -- not taken
                    refine lv_iconst (v := 2) hx hb dX4_read_132 (by decide) ?_
                    refine lv_goto (tgt := 137) hx hb dX4_read_133 (by decide) ?_
                    refine lv_istore (lv' := [(10, .int 2), (11, .int 0), (9, .int (oc_b (oc_dig ((F 1) q)))), (8, .int ((F 1) q)), (7, .int (nI q)), (6, .int u), (5, .int (nI k)), (4, .int v), (3, .int g), (2, .int w), (1, .int y), (0, .ref (h 0))]) hx hb dX4_read_137 hl (by decide) rfl (fun ls hl => ?_)
                    refine lv_iinc (v := g + 1) (lv' := [(3, .int (g + 1)), (10, .int 2), (11, .int 0), (9, .int (oc_b (oc_dig ((F 1) q)))), (8, .int ((F 1) q)), (7, .int (nI q)), (6, .int u), (5, .int (nI k)), (4, .int v), (2, .int w), (1, .int y), (0, .ref (h 0))]) hx hb dX4_read_139 hl (k := 8) rfl rfl (by decide) rfl (fun ls hl => ?_)
                    refine lv_goto (tgt := 252) hx hb dX4_read_142 (by decide) ?_
                    exact K252 2 (g + 1) v T (by first | rfl | (simp [rd_nx, *]; done) | (simp_all [rd_nx]; done)) (by first | rfl | (simp [rd_g, *]; done) | (simp_all [rd_g]; done)) (by first | rfl | (simp [rd_v, *]; done) | (simp_all [rd_v]; done)) (by simp [*]) H locs hP hD hS ls (lv_sub hl [1, 0, 8, 4, 5, 6, 7, 9, 10, 11] rfl)
                · -- not taken
                  rw [oc_b0] at c112
                  rw [Bool.not_eq_false] at c112
                  refine lv_iload_n hx hb dX4_read_115 rfl (lv_at hl 8 rfl) ?_
                  refine lv_bipush (v := 6) hx hb dX4_read_116 (by decide) ?_
                  refine lv_icmp_ge (tgt := 125) hx hb dX4_read_118 (by decide) (fun c118 => ?_) (fun c118 => ?_)
                  · -- taken
                    refine lv_iload hx hb dX4_read_125 (lv_at hl 3 rfl) ?_
                    refine lv_bipush (v := 58) hx hb dX4_read_127 (by decide) ?_
                    refine lv_icmp_ne (tgt := 136) hx hb dX4_read_129 (by decide) (fun c129 => ?_) (fun c129 => ?_)
                    · -- taken
                      refine lv_iconst (v := (-1)) hx hb dX4_read_136 (by decide) ?_
                      refine lv_istore (lv' := [(10, .int (-1)), (11, .int 0), (9, .int (oc_b (oc_dig ((F 1) q)))), (8, .int ((F 1) q)), (7, .int (nI q)), (6, .int u), (5, .int (nI k)), (4, .int v), (3, .int g), (2, .int w), (1, .int y), (0, .ref (h 0))]) hx hb dX4_read_137 hl (by decide) rfl (fun ls hl => ?_)
                      refine lv_iinc (v := g + 1) (lv' := [(3, .int (g + 1)), (10, .int (-1)), (11, .int 0), (9, .int (oc_b (oc_dig ((F 1) q)))), (8, .int ((F 1) q)), (7, .int (nI q)), (6, .int u), (5, .int (nI k)), (4, .int v), (2, .int w), (1, .int y), (0, .ref (h 0))]) hx hb dX4_read_139 hl (k := 8) rfl rfl (by decide) rfl (fun ls hl => ?_)
                      refine lv_goto (tgt := 252) hx hb dX4_read_142 (by decide) ?_
                      exact K252 (-1) (g + 1) v T (by first | rfl | (simp [rd_nx, *]; done) | (simp_all [rd_nx]; done)) (by first | rfl | (simp [rd_g, *]; done) | (simp_all [rd_g]; done)) (by first | rfl | (simp [rd_v, *]; done) | (simp_all [rd_v]; done)) (by simp [*]) H locs hP hD hS ls (lv_sub hl [1, 0, 8, 4, 5, 6, 7, 9, 10, 11] rfl)
                    · -- not taken
                      refine lv_iconst (v := 2) hx hb dX4_read_132 (by decide) ?_
                      refine lv_goto (tgt := 137) hx hb dX4_read_133 (by decide) ?_
                      refine lv_istore (lv' := [(10, .int 2), (11, .int 0), (9, .int (oc_b (oc_dig ((F 1) q)))), (8, .int ((F 1) q)), (7, .int (nI q)), (6, .int u), (5, .int (nI k)), (4, .int v), (3, .int g), (2, .int w), (1, .int y), (0, .ref (h 0))]) hx hb dX4_read_137 hl (by decide) rfl (fun ls hl => ?_)
                      refine lv_iinc (v := g + 1) (lv' := [(3, .int (g + 1)), (10, .int 2), (11, .int 0), (9, .int (oc_b (oc_dig ((F 1) q)))), (8, .int ((F 1) q)), (7, .int (nI q)), (6, .int u), (5, .int (nI k)), (4, .int v), (2, .int w), (1, .int y), (0, .ref (h 0))]) hx hb dX4_read_139 hl (k := 8) rfl rfl (by decide) rfl (fun ls hl => ?_)
                      refine lv_goto (tgt := 252) hx hb dX4_read_142 (by decide) ?_
                      exact K252 2 (g + 1) v T (by first | rfl | (simp [rd_nx, *]; done) | (simp_all [rd_nx]; done)) (by first | rfl | (simp [rd_g, *]; done) | (simp_all [rd_g]; done)) (by first | rfl | (simp [rd_v, *]; done) | (simp_all [rd_v]; done)) (by simp [*]) H locs hP hD hS ls (lv_sub hl [1, 0, 8, 4, 5, 6, 7, 9, 10, 11] rfl)
                  · -- not taken
                    refine lv_iconst (v := 1) hx hb dX4_read_121 (by decide) ?_
                    refine lv_goto (tgt := 137) hx hb dX4_read_122 (by decide) ?_
                    refine lv_istore (lv' := [(10, .int 1), (11, .int 0), (9, .int (oc_b (oc_dig ((F 1) q)))), (8, .int ((F 1) q)), (7, .int (nI q)), (6, .int u), (5, .int (nI k)), (4, .int v), (3, .int g), (2, .int w), (1, .int y), (0, .ref (h 0))]) hx hb dX4_read_137 hl (by decide) rfl (fun ls hl => ?_)
                    refine lv_iinc (v := g + 1) (lv' := [(3, .int (g + 1)), (10, .int 1), (11, .int 0), (9, .int (oc_b (oc_dig ((F 1) q)))), (8, .int ((F 1) q)), (7, .int (nI q)), (6, .int u), (5, .int (nI k)), (4, .int v), (2, .int w), (1, .int y), (0, .ref (h 0))]) hx hb dX4_read_139 hl (k := 8) rfl rfl (by decide) rfl (fun ls hl => ?_)
                    refine lv_goto (tgt := 252) hx hb dX4_read_142 (by decide) ?_
                    exact K252 1 (g + 1) v T (by first | rfl | (simp [rd_nx, *]; done) | (simp_all [rd_nx]; done)) (by first | rfl | (simp [rd_g, *]; done) | (simp_all [rd_g]; done)) (by first | rfl | (simp [rd_v, *]; done) | (simp_all [rd_v]; done)) (by simp [*]) H locs hP hD hS ls (lv_sub hl [1, 0, 8, 4, 5, 6, 7, 9, 10, 11] rfl)
            · exact absurd c69 (by decide)
          · -- not taken
            refine lv_iconst (v := 1) hx hb dX4_read_60 (by decide) ?_
            refine lv_goto (tgt := 65) hx hb dX4_read_61 (by decide) ?_
            refine lv_istore (lv' := [(11, .int 1), (10, .int (-1)), (9, .int (oc_b (oc_dig ((F 1) q)))), (8, .int ((F 1) q)), (7, .int (nI q)), (6, .int u), (5, .int (nI k)), (4, .int v), (3, .int g), (2, .int w), (1, .int y), (0, .ref (h 0))]) hx hb dX4_read_65 hl (by decide) rfl (fun ls hl => ?_)
            refine lv_iload hx hb dX4_read_67 (lv_at hl 0 rfl) ?_
            refine lv_if_eq (tgt := 105) hx hb dX4_read_69 (by decide) (fun c69 => ?_) (fun c69 => ?_)
            · exact absurd c69 (by decide)
            · -- not taken
              refine lv_aload_n hx hb dX4_read_72 rfl (lv_at hl 11 rfl) ?_
              refine va_get (D := D) (ci := 3) (v := .ref (h 6)) (C := RX4) (T := TX4) (N := 27) hx hb hts in_X4 hown hK hP 0 rfl rfl 6 (by decide) (hts _ q813) (fun _ h9 => h9) rfl dX4_read_73 ?_
              refine lv_iload hx hb dX4_read_76 (lv_at hl 6 rfl) ?_
              refine lv_iload hx hb dX4_read_78 (lv_at hl 4 rfl) ?_
              refine oc_iast hx hb hK hP hD hS 4 0 rfl rfl k rfl (by omega) (by decide) dX4_read_80 (fun H locs hP hD hS => ?_)
              have hP : va_P D oc_cl (oc_mW d h (upd I 0 0) (va_up F 6 (upd T k (nI q))) L) H := hP
              have hD : va_D (oc_hA h) (oc_mW d h (upd I 0 0) (va_up F 6 (upd T k (nI q))) L) := hD
              refine lv_iload hx hb dX4_read_81 (lv_at hl 2 rfl) ?_
              refine lv_if_eq (tgt := 97) hx hb dX4_read_83 (by decide) (fun c83 => ?_) (fun c83 => ?_)
              · -- taken
                rw [oc_b0] at c83
                refine lv_iconst (v := (-1)) hx hb dX4_read_97 (by decide) ?_
                refine lv_istore (lv' := [(10, .int (-1)), (11, .int 1), (9, .int (oc_b (oc_dig ((F 1) q)))), (8, .int ((F 1) q)), (7, .int (nI q)), (6, .int u), (5, .int (nI k)), (4, .int v), (3, .int g), (2, .int w), (1, .int y), (0, .ref (h 0))]) hx hb dX4_read_98 hl (by decide) rfl (fun ls hl => ?_)
                refine lv_iconst (v := 1) hx hb dX4_read_100 (by decide) ?_
                refine lv_istore_n (lv' := [(3, .int 1), (10, .int (-1)), (11, .int 1), (9, .int (oc_b (oc_dig ((F 1) q)))), (8, .int ((F 1) q)), (7, .int (nI q)), (6, .int u), (5, .int (nI k)), (4, .int v), (2, .int w), (1, .int y), (0, .ref (h 0))]) hx hb dX4_read_101 rfl hl (by decide) rfl (fun ls hl => ?_)
                refine lv_goto (tgt := 252) hx hb dX4_read_102 (by decide) ?_
                exact K252 (-1) 1 v (upd T k (nI q)) (by first | rfl | (simp [rd_nx, *]; done) | (simp_all [rd_nx]; done)) (by first | rfl | (simp [rd_g, *]; done) | (simp_all [rd_g]; done)) (by first | rfl | (simp [rd_v, *]; done) | (simp_all [rd_v]; done)) (by simp [*]) H locs hP hD hS ls (lv_sub hl [1, 0, 8, 4, 5, 6, 7, 9, 10, 11] rfl)
              · -- not taken
                rw [oc_b0] at c83
                rw [Bool.not_eq_false] at c83
                refine lv_iload hx hb dX4_read_86 (lv_at hl 6 rfl) ?_
                refine lv_bipush (v := 20) hx hb dX4_read_88 (by decide) ?_
                refine lv_icmp_ge (tgt := 97) hx hb dX4_read_90 (by decide) (fun c90 => ?_) (fun c90 => ?_)
                · -- taken
                  rw [oc_le (x := 20) (y := nI k) (a := 20) (b := k) rfl rfl (by omega) (by omega)] at c90
                  refine lv_iconst (v := (-1)) hx hb dX4_read_97 (by decide) ?_
                  refine lv_istore (lv' := [(10, .int (-1)), (11, .int 1), (9, .int (oc_b (oc_dig ((F 1) q)))), (8, .int ((F 1) q)), (7, .int (nI q)), (6, .int u), (5, .int (nI k)), (4, .int v), (3, .int g), (2, .int w), (1, .int y), (0, .ref (h 0))]) hx hb dX4_read_98 hl (by decide) rfl (fun ls hl => ?_)
                  refine lv_iconst (v := 1) hx hb dX4_read_100 (by decide) ?_
                  refine lv_istore_n (lv' := [(3, .int 1), (10, .int (-1)), (11, .int 1), (9, .int (oc_b (oc_dig ((F 1) q)))), (8, .int ((F 1) q)), (7, .int (nI q)), (6, .int u), (5, .int (nI k)), (4, .int v), (2, .int w), (1, .int y), (0, .ref (h 0))]) hx hb dX4_read_101 rfl hl (by decide) rfl (fun ls hl => ?_)
                  refine lv_goto (tgt := 252) hx hb dX4_read_102 (by decide) ?_
                  exact K252 (-1) 1 v (upd T k (nI q)) (by first | rfl | (simp [rd_nx, *]; done) | (simp_all [rd_nx]; done)) (by first | rfl | (simp [rd_g, *]; done) | (simp_all [rd_g]; done)) (by first | rfl | (simp [rd_v, *]; done) | (simp_all [rd_v]; done)) (by simp [*]) H locs hP hD hS ls (lv_sub hl [1, 0, 8, 4, 5, 6, 7, 9, 10, 11] rfl)
                · -- not taken
                  rw [oc_le (x := 20) (y := nI k) (a := 20) (b := k) rfl rfl (by omega) (by omega)] at c90
                  refine lv_iconst (v := 1) hx hb dX4_read_93 (by decide) ?_
                  refine lv_goto (tgt := 98) hx hb dX4_read_94 (by decide) ?_
                  refine lv_istore (lv' := [(10, .int 1), (11, .int 1), (9, .int (oc_b (oc_dig ((F 1) q)))), (8, .int ((F 1) q)), (7, .int (nI q)), (6, .int u), (5, .int (nI k)), (4, .int v), (3, .int g), (2, .int w), (1, .int y), (0, .ref (h 0))]) hx hb dX4_read_98 hl (by decide) rfl (fun ls hl => ?_)
                  refine lv_iconst (v := 1) hx hb dX4_read_100 (by decide) ?_
                  refine lv_istore_n (lv' := [(3, .int 1), (10, .int 1), (11, .int 1), (9, .int (oc_b (oc_dig ((F 1) q)))), (8, .int ((F 1) q)), (7, .int (nI q)), (6, .int u), (5, .int (nI k)), (4, .int v), (2, .int w), (1, .int y), (0, .ref (h 0))]) hx hb dX4_read_101 rfl hl (by decide) rfl (fun ls hl => ?_)
                  refine lv_goto (tgt := 252) hx hb dX4_read_102 (by decide) ?_
                  exact K252 1 1 v (upd T k (nI q)) (by first | rfl | (simp [rd_nx, *]; done) | (simp_all [rd_nx]; done)) (by first | rfl | (simp [rd_g, *]; done) | (simp_all [rd_g]; done)) (by first | rfl | (simp [rd_v, *]; done) | (simp_all [rd_v]; done)) (by simp [*]) H locs hP hD hS ls (lv_sub hl [1, 0, 8, 4, 5, 6, 7, 9, 10, 11] rfl)
  exact lp23 (N + 1) 0 0 0 0 0 0 (-1) (F 6) (by omega) (by omega) rfl (fun j hj => absurd hj (by omega)) H locs hP hD hS ls (lv_sub hl [0, 1, 2, 3, 4, 5, 6, 7] rfl)
