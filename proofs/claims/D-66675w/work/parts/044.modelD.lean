/-! ===== OriginRulesModel: why, count, share, begin, rowOf ===== -/
set_option maxHeartbeats 4000000 in
set_option maxRecDepth 100000 in
theorem kX4_why {l : Launch} {s0 : State} {b0 : Addr} {D : va_G} {d : Nat → ClassId} (G : oc_G l s0 b0 D d) {h : Nat → Nat} {I : Nat → Int32} {F : Nat → Nat → Int32} {L : Nat → Int64} {H : Heap} (hP : va_P D oc_cl (oc_mW d h I F L) H) (hD : va_D (oc_hA h) (oc_mW d h I F L)) (hN0 : ∀ q, oc_hA h q → s0.heap.size ≤ q) (x : Int32) (n : Nat) (hn : I 22 = nI n) (h3 : n ≤ 300) : oc_C l s0 yX4_why (oc_rm 0 0 0 0) [.ref (h 0), .int x] H (oc_hA h) (oc_Pm D d h (sp_why I F L n x)) := by
  refine oc_start G (cc := cX4_why) (L := 2) (ret := (Option.some Jvm.ClassFile.FieldType.int)) q998 (Nat.le_of_ble_eq_true rfl) ?_
  intro p e s m below meth c ls hx hok hb hml hr hlocks htab hown hts hK hmn hh hl
  subst hh
  have hl : lv_has ls 2 [(0, .ref (h 0)), (1, .int x)] := hl
  have hS : va_S (oc_hA h) s.heap s.heap [] := va_S.rf
  generalize hH0 : s.heap = H at hP ⊢
  have hS : va_S (oc_hA h) s.heap H [] := by rw [← hH0]; exact va_S.rf
  clear hH0
  generalize hlo0 : ([] : List Loc) = locs at hS ⊢
  refine lv_aload_n hx hb dX4_why_0 rfl (lv_at hl 0 rfl) ?_
  refine lv_iconst (v := 0) hx hb dX4_why_1 (by decide) ?_
  refine va_put (D := D) (ci := 3) (v := .int 0) (ty := .int) (C := RX4) (T := TX4) (N := 27) hx hb hts in_X4 tyX4 tyX4_ok nmX4 hown hK hP hD hS 0 rfl rfl 0 (by decide) (hts _ q807) (fun _ h9 => h9) rfl (by decide +kernel) rfl rfl (Nat.le_of_ble_eq_true rfl) dX4_why_2 (fun H locs hP hD hS => ?_)
  have hP : va_P D oc_cl (oc_mW d h (upd I 0 0) F L) H := hP
  have hD : va_D (oc_hA h) (oc_mW d h (upd I 0 0) F L) := hD
  refine lv_iload_n hx hb dX4_why_5 rfl (lv_at hl 1 rfl) ?_
  refine lv_if_lt (tgt := 26) hx hb dX4_why_6 (by decide) (fun c6 => ?_) (fun c6 => ?_)
  · -- taken
    refine lv_iconst (v := (-1)) hx hb dX4_why_26 (by decide) ?_
    exact oc_iret hx hb hr hlocks hS dX4_why_27 ⟨_, _, _, _, rfl, hP, rfl, rfl, ⟨rfl, rfl, rfl, Or.inr ⟨by first | exact Or.inl c6 | exact Or.inr c14, rfl⟩⟩⟩
  · -- not taken
    refine lv_iload_n hx hb dX4_why_9 rfl (lv_at hl 1 rfl) ?_
    refine lv_aload_n hx hb dX4_why_10 rfl (lv_at hl 0 rfl) ?_
    refine va_get (D := D) (ci := 3) (v := .int (I 22)) (C := RX4) (T := TX4) (N := 27) hx hb hts in_X4 hown hK hP 0 rfl rfl 22 (by decide) (hts _ q829) (fun _ h9 => h9) rfl dX4_why_11 ?_
    refine oc_topi (x := I 22) (y := nI n) hn ?_
    refine lv_icmp_ge (tgt := 26) hx hb dX4_why_14 (by decide) (fun c14 => ?_) (fun c14 => ?_)
    · -- taken
      refine lv_iconst (v := (-1)) hx hb dX4_why_26 (by decide) ?_
      exact oc_iret hx hb hr hlocks hS dX4_why_27 ⟨_, _, _, _, rfl, hP, rfl, rfl, ⟨rfl, rfl, rfl, Or.inr ⟨by first | exact Or.inl c6 | exact Or.inr c14, rfl⟩⟩⟩
    · -- not taken
      obtain ⟨k, hk, hxk⟩ := oc_ixof c6 c14 (by omega)
      refine lv_aload_n hx hb dX4_why_17 rfl (lv_at hl 0 rfl) ?_
      refine va_get (D := D) (ci := 3) (v := .ref (h 23)) (C := RX4) (T := TX4) (N := 27) hx hb hts in_X4 hown hK hP 0 rfl rfl 23 (by decide) (hts _ q830) (fun _ h9 => h9) rfl dX4_why_18 ?_
      refine lv_iload_n hx hb dX4_why_21 rfl (lv_at hl 1 rfl) ?_
      refine oc_iald hx hb hK hP 12 0 rfl rfl k hxk (by omega) (by decide) dX4_why_22 ?_
      refine lv_goto (tgt := 27) hx hb dX4_why_23 (by decide) ?_
      exact oc_iret hx hb hr hlocks hS dX4_why_27 ⟨_, _, _, _, rfl, hP, rfl, rfl, ⟨rfl, rfl, rfl, Or.inl ⟨k, hk, hxk, rfl⟩⟩⟩
/-- how many parts are foreign, as far as k -/
def oc_mc (I : Nat → Int32) (F : Nat → Nat → Int32) : Nat → Int32
  | 0 => 0
  | k + 1 => oc_mc I F k + (if oc_mw I F (F 9 k) = true then 0 else 1)
def oc_ct (I : Nat → Int32) (F : Nat → Nat → Int32) (N : Nat) (x : Int32) : Int32 :=
  if x = 0 then I 2 else if x = 1 then I 5 else if x = 2 then I 7 else if x = 3 then oc_mc I F N else if x = 4 then I 11 else if x = 5 then I 14 else if x = 6 then I 18 else if x = 7 then I 22 else -1
def sp_count (I : Nat → Int32) (F : Nat → Nat → Int32) (L : Nat → Int64) (N : Nat) (x : Int32) : oc_Φ := fun v I' F' L' => F' = F ∧ L' = L ∧ I' = upd I 0 0 ∧ v = some (.int (oc_ct I F N x))
set_option maxHeartbeats 4000000 in
set_option maxRecDepth 100000 in
theorem kX4_count {l : Launch} {s0 : State} {b0 : Addr} {D : va_G} {d : Nat → ClassId} (G : oc_G l s0 b0 D d) {h : Nat → Nat} {I : Nat → Int32} {F : Nat → Nat → Int32} {L : Nat → Int64} {H : Heap} (hP : va_P D oc_cl (oc_mW d h I F L) H) (hD : va_D (oc_hA h) (oc_mW d h I F L)) (hN0 : ∀ q, oc_hA h q → s0.heap.size ≤ q) (x : Int32) (N : Nat) (hN : I 7 = nI N) (h12 : N ≤ 12) : oc_C l s0 yX4_count (oc_rm 1 18 0 0) [.ref (h 0), .int x] H (oc_hA h) (oc_Pm D d h (sp_count I F L N x)) := by
  refine oc_start G (cc := cX4_count) (L := 4) (ret := (Option.some Jvm.ClassFile.FieldType.int)) q1019 (Nat.le_of_ble_eq_true rfl) ?_
  intro p e s m below meth c ls hx hok hb hml hr hlocks htab hown hts hK hmn hh hl
  subst hh
  have hl : lv_has ls 4 [(0, .ref (h 0)), (1, .int x)] := hl
  have hS : va_S (oc_hA h) s.heap s.heap [] := va_S.rf
  generalize hH0 : s.heap = H at hP ⊢
  have hS : va_S (oc_hA h) s.heap H [] := by rw [← hH0]; exact va_S.rf
  clear hH0
  generalize hlo0 : ([] : List Loc) = locs at hS ⊢
  refine lv_aload_n hx hb dX4_count_0 rfl (lv_at hl 0 rfl) ?_
  refine lv_iconst (v := 0) hx hb dX4_count_1 (by decide) ?_
  refine va_put (D := D) (ci := 3) (v := .int 0) (ty := .int) (C := RX4) (T := TX4) (N := 27) hx hb hts in_X4 tyX4 tyX4_ok nmX4 hown hK hP hD hS 0 rfl rfl 0 (by decide) (hts _ q807) (fun _ h9 => h9) rfl (by decide +kernel) rfl rfl (Nat.le_of_ble_eq_true rfl) dX4_count_2 (fun H locs hP hD hS => ?_)
  have hP : va_P D oc_cl (oc_mW d h (upd I 0 0) F L) H := hP
  have hD : va_D (oc_hA h) (oc_mW d h (upd I 0 0) F L) := hD
  refine lv_iconst (v := 0) hx hb dX4_count_5 (by decide) ?_
  refine lv_istore_n (lv' := [(2, .int 0), (0, .ref (h 0)), (1, .int x)]) hx hb dX4_count_6 rfl hl (by decide) rfl (fun ls hl => ?_)
  refine lv_iconst (v := 0) hx hb dX4_count_7 (by decide) ?_
  refine lv_istore_n (lv' := [(3, .int 0), (2, .int 0), (0, .ref (h 0)), (1, .int x)]) hx hb dX4_count_8 rfl hl (by decide) rfl (fun ls hl => ?_)
  have lp9 : ∀ (n : Nat) (k : Nat) (y : Int32), k ≤ N → N + 1 ≤ k + n → y = oc_mc I F k → ∀ (ls : Array Slot), lv_has ls 4 [(3, .int (nI k)), (2, .int y), (0, .ref (h 0)), (1, .int x)] → W p l e (oc_rm 1 18 0 0) s m ([.ref (h 0), .int x] : List Value).toArray below meth c H locs 0 0 (oc_Q (oc_hA h) below s (oc_Pm D d h (sp_count I F L N x))) (F0 m 9 ls []) := by
    intro n
    induction n with
    | zero => intro k y hk hn ey ls hl; exact absurd hn (by omega)
    | succ n ih9 =>
      intro k y hk hn ey ls hl
      refine lv_iload_n hx hb dX4_count_9 rfl (lv_at hl 0 rfl) ?_
      refine lv_aload_n hx hb dX4_count_10 rfl (lv_at hl 2 rfl) ?_
      refine va_get (D := D) (ci := 3) (v := .int (I 7)) (C := RX4) (T := TX4) (N := 27) hx hb hts in_X4 hown hK hP 0 rfl rfl 7 (by decide) (hts _ q814) (fun _ h9 => h9) rfl dX4_count_11 ?_
      refine oc_topi (x := I 7) (y := nI N) hN ?_
      refine lv_icmp_ge (tgt := 44) hx hb dX4_count_14 (by decide) (fun c14 => ?_) (fun c14 => ?_)
      · -- taken
        rw [oc_le (x := nI N) (y := nI k) (a := N) (b := k) rfl rfl (by omega) (by omega)] at c14
        have hkN : k = N := by omega
        subst hkN
        subst ey
        clear hN
        refine lv_iload_n hx hb dX4_count_44 rfl (lv_at hl 3 rfl) ?_
        by_cases w45_0 : x = 0
        · -- case 0
          refine lv_tableIn (x := x) (off := 47) (tgt := 92) hx hb dX4_count_45 (by rw [w45_0]; decide) (by rw [w45_0]; decide) (by rw [w45_0]; rfl) (by decide) ?_
          refine lv_aload_n hx hb dX4_count_92 rfl (lv_at hl 2 rfl) ?_
          refine va_get (D := D) (ci := 3) (v := .int (I 2)) (C := RX4) (T := TX4) (N := 27) hx hb hts in_X4 hown hK hP 0 rfl rfl 2 (by decide) (hts _ q809) (fun _ h9 => h9) rfl dX4_count_93 ?_
          exact oc_iret hx hb hr hlocks hS dX4_count_96 ⟨_, _, _, _, rfl, hP, rfl, rfl, ⟨rfl, rfl, rfl, by simp [oc_ct, *]⟩⟩
        by_cases w45_1 : x = 1
        · -- case 1
          refine lv_tableIn (x := x) (off := 52) (tgt := 97) hx hb dX4_count_45 (by rw [w45_1]; decide) (by rw [w45_1]; decide) (by rw [w45_1]; rfl) (by decide) ?_
          refine lv_aload_n hx hb dX4_count_97 rfl (lv_at hl 2 rfl) ?_
          refine va_get (D := D) (ci := 3) (v := .int (I 5)) (C := RX4) (T := TX4) (N := 27) hx hb hts in_X4 hown hK hP 0 rfl rfl 5 (by decide) (hts _ q812) (fun _ h9 => h9) rfl dX4_count_98 ?_
          exact oc_iret hx hb hr hlocks hS dX4_count_101 ⟨_, _, _, _, rfl, hP, rfl, rfl, ⟨rfl, rfl, rfl, by simp [oc_ct, *]⟩⟩
        by_cases w45_2 : x = 2
        · -- case 2
          refine lv_tableIn (x := x) (off := 57) (tgt := 102) hx hb dX4_count_45 (by rw [w45_2]; decide) (by rw [w45_2]; decide) (by rw [w45_2]; rfl) (by decide) ?_
          refine lv_aload_n hx hb dX4_count_102 rfl (lv_at hl 2 rfl) ?_
          refine va_get (D := D) (ci := 3) (v := .int (I 7)) (C := RX4) (T := TX4) (N := 27) hx hb hts in_X4 hown hK hP 0 rfl rfl 7 (by decide) (hts _ q814) (fun _ h9 => h9) rfl dX4_count_103 ?_
          exact oc_iret hx hb hr hlocks hS dX4_count_106 ⟨_, _, _, _, rfl, hP, rfl, rfl, ⟨rfl, rfl, rfl, by simp [oc_ct, *]⟩⟩
        by_cases w45_3 : x = 3
        · -- case 3
          refine lv_tableIn (x := x) (off := 62) (tgt := 107) hx hb dX4_count_45 (by rw [w45_3]; decide) (by rw [w45_3]; decide) (by rw [w45_3]; rfl) (by decide) ?_
          refine lv_iload_n hx hb dX4_count_107 rfl (lv_at hl 1 rfl) ?_
          exact oc_iret hx hb hr hlocks hS dX4_count_108 ⟨_, _, _, _, rfl, hP, rfl, rfl, ⟨rfl, rfl, rfl, by simp [oc_ct, *]⟩⟩
        by_cases w45_4 : x = 4
        · -- case 4
          refine lv_tableIn (x := x) (off := 64) (tgt := 109) hx hb dX4_count_45 (by rw [w45_4]; decide) (by rw [w45_4]; decide) (by rw [w45_4]; rfl) (by decide) ?_
          refine lv_aload_n hx hb dX4_count_109 rfl (lv_at hl 2 rfl) ?_
          refine va_get (D := D) (ci := 3) (v := .int (I 11)) (C := RX4) (T := TX4) (N := 27) hx hb hts in_X4 hown hK hP 0 rfl rfl 11 (by decide) (hts _ q818) (fun _ h9 => h9) rfl dX4_count_110 ?_
          exact oc_iret hx hb hr hlocks hS dX4_count_113 ⟨_, _, _, _, rfl, hP, rfl, rfl, ⟨rfl, rfl, rfl, by simp [oc_ct, *]⟩⟩
        by_cases w45_5 : x = 5
        · -- case 5
          refine lv_tableIn (x := x) (off := 69) (tgt := 114) hx hb dX4_count_45 (by rw [w45_5]; decide) (by rw [w45_5]; decide) (by rw [w45_5]; rfl) (by decide) ?_
          refine lv_aload_n hx hb dX4_count_114 rfl (lv_at hl 2 rfl) ?_
          refine va_get (D := D) (ci := 3) (v := .int (I 14)) (C := RX4) (T := TX4) (N := 27) hx hb hts in_X4 hown hK hP 0 rfl rfl 14 (by decide) (hts _ q821) (fun _ h9 => h9) rfl dX4_count_115 ?_
          exact oc_iret hx hb hr hlocks hS dX4_count_118 ⟨_, _, _, _, rfl, hP, rfl, rfl, ⟨rfl, rfl, rfl, by simp [oc_ct, *]⟩⟩
        by_cases w45_6 : x = 6
        · -- case 6
          refine lv_tableIn (x := x) (off := 74) (tgt := 119) hx hb dX4_count_45 (by rw [w45_6]; decide) (by rw [w45_6]; decide) (by rw [w45_6]; rfl) (by decide) ?_
          refine lv_aload_n hx hb dX4_count_119 rfl (lv_at hl 2 rfl) ?_
          refine va_get (D := D) (ci := 3) (v := .int (I 18)) (C := RX4) (T := TX4) (N := 27) hx hb hts in_X4 hown hK hP 0 rfl rfl 18 (by decide) (hts _ q825) (fun _ h9 => h9) rfl dX4_count_120 ?_
          exact oc_iret hx hb hr hlocks hS dX4_count_123 ⟨_, _, _, _, rfl, hP, rfl, rfl, ⟨rfl, rfl, rfl, by simp [oc_ct, *]⟩⟩
        by_cases w45_7 : x = 7
        · -- case 7
          refine lv_tableIn (x := x) (off := 79) (tgt := 124) hx hb dX4_count_45 (by rw [w45_7]; decide) (by rw [w45_7]; decide) (by rw [w45_7]; rfl) (by decide) ?_
          refine lv_aload_n hx hb dX4_count_124 rfl (lv_at hl 2 rfl) ?_
          refine va_get (D := D) (ci := 3) (v := .int (I 22)) (C := RX4) (T := TX4) (N := 27) hx hb hts in_X4 hown hK hP 0 rfl rfl 22 (by decide) (hts _ q829) (fun _ h9 => h9) rfl dX4_count_125 ?_
          exact oc_iret hx hb hr hlocks hS dX4_count_128 ⟨_, _, _, _, rfl, hP, rfl, rfl, ⟨rfl, rfl, rfl, by simp [oc_ct, *]⟩⟩
        have hsw : x.toInt < 0 ∨ 7 < x.toInt := by
          have z0 : ¬ x.toInt = 0 := lv_neT (k := 0) w45_0 rfl
          have z1 : ¬ x.toInt = 1 := lv_neT (k := 1) w45_1 rfl
          have z2 : ¬ x.toInt = 2 := lv_neT (k := 2) w45_2 rfl
          have z3 : ¬ x.toInt = 3 := lv_neT (k := 3) w45_3 rfl
          have z4 : ¬ x.toInt = 4 := lv_neT (k := 4) w45_4 rfl
          have z5 : ¬ x.toInt = 5 := lv_neT (k := 5) w45_5 rfl
          have z6 : ¬ x.toInt = 6 := lv_neT (k := 6) w45_6 rfl
          have z7 : ¬ x.toInt = 7 := lv_neT (k := 7) w45_7 rfl
          omega
        refine lv_tableOut (x := x) (tgt := 129) hx hb dX4_count_45 hsw (by decide) ?_
        refine lv_iconst (v := (-1)) hx hb dX4_count_129 (by decide) ?_
        exact oc_iret hx hb hr hlocks hS dX4_count_130 ⟨_, _, _, _, rfl, hP, rfl, rfl, ⟨rfl, rfl, rfl, by simp [oc_ct, *]⟩⟩
      · -- not taken
        rw [oc_le (x := nI N) (y := nI k) (a := N) (b := k) rfl rfl (by omega) (by omega)] at c14
        refine lv_iload_n hx hb dX4_count_17 rfl (lv_at hl 1 rfl) ?_
        refine oc_cut (g2 := F0 m 36 ls [.int (if oc_mw I F (F 9 k) = true then 0 else 1), .int y]) ?_ (fun K36 => ?_)
        · -- behind 36
          refine lv_iadd hx hb dX4_count_36 ?_
          refine lv_istore_n (lv' := [(2, .int (y + (if oc_mw I F (F 9 k) = true then 0 else 1))), (3, .int (nI k)), (0, .ref (h 0)), (1, .int x)]) hx hb dX4_count_37 rfl hl (by decide) rfl (fun ls hl => ?_)
          refine lv_iinc (v := nI (k + 1)) (lv' := [(3, .int (nI (k + 1))), (2, .int (y + (if oc_mw I F (F 9 k) = true then 0 else 1))), (0, .ref (h 0)), (1, .int x)]) hx hb dX4_count_38 hl (k := 1) rfl (nI_1 k) (by decide) rfl (fun ls hl => ?_)
          refine lv_goto (tgt := 9) hx hb dX4_count_41 (by decide) ?_
          exact ih9 (k + 1) (y + (if oc_mw I F (F 9 k) = true then 0 else 1)) (by omega) (by omega) (by rw [ey]; rfl) ls (lv_sub hl [0, 1, 2, 3] rfl)
        · -- up to 36
          refine lv_aload_n hx hb dX4_count_18 rfl (lv_at hl 2 rfl) ?_
          refine lv_aload_n hx hb dX4_count_19 rfl (lv_at hl 2 rfl) ?_
          refine va_get (D := D) (ci := 3) (v := .ref (h 9)) (C := RX4) (T := TX4) (N := 27) hx hb hts in_X4 hown hK hP 0 rfl rfl 9 (by decide) (hts _ q816) (fun _ h9 => h9) rfl dX4_count_20 ?_
          refine lv_iload_n hx hb dX4_count_23 rfl (lv_at hl 0 rfl) ?_
          refine oc_iald hx hb hK hP 6 0 rfl rfl k rfl (by omega) (by decide) dX4_count_24 ?_
          refine oc_callR1 hx hb hml hl.1 ⟨hok, hS, hN0⟩ (oc_iV (As := [.int ((F 9) k)]) (rest := [.int y]) hx hb hown (hts _ q957) (hts _ q959) (hts _ qs15) (oc_Sig.of (hts _ q960) (by decide +kernel : (parseMethodDescriptor "(I)Z").map (fun d => d.parameters.length) = some 1)) (va_recv hK hP (ci := 3) (q0 := 0) rfl rfl) ⟨by decide, by decide⟩ dX4_count_25 rfl) (oc_M.of (by decide +kernel) (hts _ q960)) (kX4_isOwn G hP ((F 9) k)) dX4_count_25 (Nat.le_of_ble_eq_true rfl) (Nat.le_of_ble_eq_true rfl) (Nat.le_of_ble_eq_true rfl) (Nat.le_of_ble_eq_true rfl) ?_
          refine oc_topi (x := oc_b (oc_mw (upd I 0 0) F ((F 9) k))) (y := oc_b (oc_mw I F ((F 9) k))) (rfl) ?_
          refine lv_if_eq (tgt := 35) hx hb dX4_count_28 (by decide) (fun c28 => ?_) (fun c28 => ?_)
          · -- taken
            rw [oc_b0] at c28
            refine lv_iconst (v := 1) hx hb dX4_count_35 (by decide) ?_
            exact oc_topi (by simp [*]) K36
          · -- not taken
            rw [oc_b0] at c28
            rw [Bool.not_eq_false] at c28
            refine lv_iconst (v := 0) hx hb dX4_count_31 (by decide) ?_
            refine lv_goto (tgt := 36) hx hb dX4_count_32 (by decide) ?_
            exact oc_topi (by simp [*]) K36
  exact lp9 (N + 1) 0 0 (by omega) (by omega) rfl ls (lv_sub hl [0, 1, 2, 3] rfl)
theorem oc_inS {x : Int64} (h : oc_in x 0 1000000000 = true) : ∃ j : Nat, j ≤ 1000000000 ∧ x = lN j := by
  simp only [oc_in, Bool.and_eq_true, Bool.not_eq_true', decide_eq_false_iff_not] at h
  obtain ⟨a, b⟩ := h
  obtain ⟨j, hj, rfl⟩ := pk_lOf a
  refine ⟨j, ?_, rfl⟩
  rw [show (1000000000 : Int64) = lN 1000000000 from rfl, pk_lLT (by decide) hj] at b
  omega
def oc_sok (x : Int64) (y : Int32) : Bool := oc_in x 0 1000000000 && oc_in y.toInt64 0 1
/-- f: what foreign parts cost -/
def sp_share (I : Nat → Int32) (F : Nat → Nat → Int32) (L : Nat → Int64) (f : Nat) (x : Int64) (y : Int32) : oc_Φ := fun v I' F' L' => F' = F ∧ L' = L ∧
  ((oc_sok x y = false ∧ v = some (.long (0 : Int32).toInt64) ∧ I' = upd I 0 1) ∨ (oc_sok x y = true ∧ x = 0 ∧ v = some (.long (0 : Int32).toInt64) ∧ I' = upd I 0 2) ∨
   (oc_sok x y = true ∧ ¬ x = 0 ∧ I' = upd I 0 0 ∧ ∃ j : Nat, 0 < j ∧ j ≤ 1000000000 ∧ x = lN j ∧ v = some (.long (if y = 0 then lN (f / Nat.gcd f j) else lN (j / Nat.gcd f j)))))
set_option maxHeartbeats 4000000 in
set_option maxRecDepth 100000 in
theorem kX4_share {l : Launch} {s0 : State} {b0 : Addr} {D : va_G} {d : Nat → ClassId} (G : oc_G l s0 b0 D d) {h : Nat → Nat} {I : Nat → Int32} {F : Nat → Nat → Int32} {L : Nat → Int64} {H : Heap} (hP : va_P D oc_cl (oc_mW d h I F L) H) (hD : va_D (oc_hA h) (oc_mW d h I F L)) (hN0 : ∀ q, oc_hA h q → s0.heap.size ≤ q) (x : Int64) (y : Int32) (f : Nat) (N : Nat) (hN : I 7 = nI N) (h12 : N ≤ 12) (hf : oc_mf I F L N = lN f) (hf2 : f < 4611686018427387904) : oc_C l s0 yX4_share (oc_rm 2 34 0 0) [.ref (h 0), .long x, .int y] H (oc_hA h) (oc_Pm D d h (sp_share I F L f x y)) := by
  refine oc_start G (cc := cX4_share) (L := 12) (ret := (Option.some Jvm.ClassFile.FieldType.long)) q1002 (Nat.le_of_ble_eq_true rfl) ?_
  intro p e s m below meth c ls hx hok hb hml hr hlocks htab hown hts hK hmn hh hl
  subst hh
  have hl : lv_has ls 12 [(0, .ref (h 0)), (1, .long x), (3, .int y)] := hl
  have hS : va_S (oc_hA h) s.heap s.heap [] := va_S.rf
  generalize hH0 : s.heap = H at hP ⊢
  have hS : va_S (oc_hA h) s.heap H [] := by rw [← hH0]; exact va_S.rf
  clear hH0
  generalize hlo0 : ([] : List Loc) = locs at hS ⊢
  refine lv_lload_n hx hb dX4_share_0 rfl (lv_at hl 1 rfl) ?_
  refine lv_lconst (v := 0) hx hb dX4_share_1 (by decide) ?_
  refine lv_ldc2 (v := 1000000000) hx hb hown (hts _ q922) dX4_share_2 ?_
  refine oc_callR1 hx hb hml hl.1 ⟨hok, hS, hN0⟩ (oc_iS (As := [.long x, .long 0, .long 1000000000]) (rest := []) hx hb hown (hts _ q900) (hts _ q901) (hts _ q30) (hts _ q902) ⟨by decide, by decide, (by decide +kernel : (parseMethodDescriptor "(JJJ)Z").map (fun d => d.parameters.length) = some 3)⟩ dX4_share_5 rfl) (oc_M.of (by decide +kernel) (hts _ q902)) (kX4_in G x 0 1000000000) dX4_share_5 (Nat.le_of_ble_eq_true rfl) (Nat.le_of_ble_eq_true rfl) (Nat.le_of_ble_eq_true rfl) (Nat.le_of_ble_eq_true rfl) ?_
  refine lv_if_eq (tgt := 21) hx hb dX4_share_8 (by decide) (fun c8 => ?_) (fun c8 => ?_)
  · -- taken
    rw [oc_b0] at c8
    refine lv_aload_n hx hb dX4_share_21 rfl (lv_at hl 0 rfl) ?_
    refine lv_iconst (v := 1) hx hb dX4_share_22 (by decide) ?_
    refine oc_callM hx hb hml hl.1 ⟨hok, hS, hN0⟩ (oc_iV (As := [.int 1]) (rest := []) hx hb hown (hts _ q923) (hts _ q925) (hts _ qs14) (oc_Sig.of (hts _ q926) (by decide +kernel : (parseMethodDescriptor "(I)I").map (fun d => d.parameters.length) = some 1)) (va_recv hK hP (ci := 3) (q0 := 0) rfl rfl) ⟨by decide, by decide⟩ dX4_share_23 rfl) (oc_M.of (by decide +kernel) (hts _ q926)) (kX4_refuse G hP hD hN0 1) (fun _ z => z) dX4_share_23 (Nat.le_of_ble_eq_true rfl) (Nat.le_of_ble_eq_true rfl) (Nat.le_of_ble_eq_true rfl) (Nat.le_of_ble_eq_true rfl) (fun v I_ F_ L_ H locs sp hP hz1 hk1 hS => ?_)
    obtain ⟨rfl, e2, e3, e4⟩ := sp
    rw [e2, e3, e4] at hP
    clear e2 e3 e4
    have hD : va_D (oc_hA h) (oc_mW d h (upd I 0 1) F L) := oc_mD hD
    refine W.eq (g2 := F0 m 26 ls [.int 0]) rfl ?_
    refine lv_i2l (v := (0 : Int32).toInt64) hx hb dX4_share_26 rfl ?_
    exact oc_lret hx hb hr hlocks hS dX4_share_27 ⟨_, _, _, _, rfl, hP, rfl, rfl, ⟨rfl, rfl, Or.inl ⟨by simp [oc_sok, *], rfl, rfl⟩⟩⟩
  · -- not taken
    rw [oc_b0] at c8
    rw [Bool.not_eq_false] at c8
    refine lv_iload_n hx hb dX4_share_11 rfl (lv_at hl 2 rfl) ?_
    refine lv_i2l (v := y.toInt64) hx hb dX4_share_12 rfl ?_
    refine lv_lconst (v := 0) hx hb dX4_share_13 (by decide) ?_
    refine lv_lconst (v := 1) hx hb dX4_share_14 (by decide) ?_
    refine oc_callR1 hx hb hml hl.1 ⟨hok, hS, hN0⟩ (oc_iS (As := [.long y.toInt64, .long 0, .long 1]) (rest := []) hx hb hown (hts _ q900) (hts _ q901) (hts _ q30) (hts _ q902) ⟨by decide, by decide, (by decide +kernel : (parseMethodDescriptor "(JJJ)Z").map (fun d => d.parameters.length) = some 3)⟩ dX4_share_15 rfl) (oc_M.of (by decide +kernel) (hts _ q902)) (kX4_in G y.toInt64 0 1) dX4_share_15 (Nat.le_of_ble_eq_true rfl) (Nat.le_of_ble_eq_true rfl) (Nat.le_of_ble_eq_true rfl) (Nat.le_of_ble_eq_true rfl) ?_
    refine lv_if_ne (tgt := 28) hx hb dX4_share_18 (by decide) (fun c18 => ?_) (fun c18 => ?_)
    · -- taken
      rw [oc_b0] at c18
      rw [Bool.not_eq_false] at c18
      refine lv_lload_n hx hb dX4_share_28 rfl (lv_at hl 1 rfl) ?_
      refine lv_lconst (v := 0) hx hb dX4_share_29 (by decide) ?_
      refine W.lcmp hx hb dX4_share_30 ?_
      refine lv_if_ne (tgt := 41) hx hb dX4_share_31 (by decide) (fun c31 => ?_) (fun c31 => ?_)
      · -- taken
        rw [lg_cmp_eq] at c31
        obtain ⟨j, hj, hxj⟩ := oc_inS c8
        have hj0 : 0 < j := by
          rcases Nat.eq_zero_or_pos j with z | z
          · exact absurd (by rw [hxj, z]; rfl) c31
          · exact z
        refine lv_aload_n hx hb dX4_share_41 rfl (lv_at hl 0 rfl) ?_
        refine lv_iconst (v := 0) hx hb dX4_share_42 (by decide) ?_
        refine va_put (D := D) (ci := 3) (v := .int 0) (ty := .int) (C := RX4) (T := TX4) (N := 27) hx hb hts in_X4 tyX4 tyX4_ok nmX4 hown hK hP hD hS 0 rfl rfl 0 (by decide) (hts _ q807) (fun _ h9 => h9) rfl (by decide +kernel) rfl rfl (Nat.le_of_ble_eq_true rfl) dX4_share_43 (fun H locs hP hD hS => ?_)
        have hP : va_P D oc_cl (oc_mW d h (upd I 0 0) F L) H := hP
        have hD : va_D (oc_hA h) (oc_mW d h (upd I 0 0) F L) := hD
        refine lv_aload_n hx hb dX4_share_46 rfl (lv_at hl 0 rfl) ?_
        refine oc_callR1 hx hb hml hl.1 ⟨hok, hS, hN0⟩ (oc_iV (As := []) (rest := []) hx hb hown (hts _ q987) (hts _ q989) (hts _ qs21) (oc_Sig.of (hts _ q990) (by decide +kernel : (parseMethodDescriptor "()J").map (fun d => d.parameters.length) = some 0)) (va_recv hK hP (ci := 3) (q0 := 0) rfl rfl) ⟨by decide, by decide⟩ dX4_share_47 rfl) (oc_M.of (by decide +kernel) (hts _ q990)) (kX4_foreign G hP N hN h12) dX4_share_47 (Nat.le_of_ble_eq_true rfl) (Nat.le_of_ble_eq_true rfl) (Nat.le_of_ble_eq_true rfl) (Nat.le_of_ble_eq_true rfl) ?_
        refine oc_topl (x := oc_mf (upd I 0 0) F L N) (y := oc_mf I F L N) (by apply oc_mf_I; rfl) ?_
        refine oc_topl (x := oc_mf I F L N) (y := lN f) hf ?_
        refine lv_lstore (lv' := [(4, .long (lN f)), (0, .ref (h 0)), (1, .long x), (3, .int y)]) hx hb dX4_share_50 hl (by decide) rfl (fun ls hl => ?_)
        refine lv_lload hx hb dX4_share_52 (lv_at hl 0 rfl) ?_
        refine lv_lstore (lv' := [(6, .long (lN f)), (4, .long (lN f)), (0, .ref (h 0)), (1, .long x), (3, .int y)]) hx hb dX4_share_54 hl (by decide) rfl (fun ls hl => ?_)
        refine lv_lload_n hx hb dX4_share_56 rfl (lv_at hl 3 rfl) ?_
        refine oc_topl (x := x) (y := lN j) hxj ?_
        refine lv_lstore (lv' := [(8, .long (lN j)), (6, .long (lN f)), (4, .long (lN f)), (0, .ref (h 0)), (1, .long x), (3, .int y)]) hx hb dX4_share_57 hl (by decide) rfl (fun ls hl => ?_)
        have lp59 : ∀ (n : Nat) (a : Nat) (b : Nat), a < 4611686018427387904 ∧ b ≤ 1000000000 → b + 1 ≤ n → Nat.gcd a b = Nat.gcd f j → ∀ (ls : Array Slot), lv_has ls 12 [(8, .long (lN b)), (6, .long (lN a)), (4, .long (lN f)), (0, .ref (h 0)), (1, .long x), (3, .int y)] → W p l e (oc_rm 2 34 0 0) s m ([.ref (h 0), .long x, .int y] : List Value).toArray below meth c H locs 0 0 (oc_Q (oc_hA h) below s (oc_Pm D d h (sp_share I F L f x y))) (F0 m 59 ls []) := by
          intro n
          induction n with
          | zero => intro a b hab hn hg ls hl; exact absurd hn (by omega)
          | succ n ih59 =>
            intro a b hab hn hg ls hl
            refine lv_lload hx hb dX4_share_59 (lv_at hl 0 rfl) ?_
            refine lv_lconst (v := 0) hx hb dX4_share_61 (by decide) ?_
            refine W.lcmp hx hb dX4_share_62 ?_
            refine lv_if_le (tgt := 84) hx hb dX4_share_63 (by decide) (fun c63 => ?_) (fun c63 => ?_)
            · -- taken
              rw [lg_cmp_le] at c63
              have hb0 : b = 0 := by
                rw [← show lN 0 = 0 from rfl, pk_lLE (by omega) (by decide)] at c63
                omega
              subst hb0
              have hga : a = Nat.gcd f j := by rw [← hg, Nat.gcd_zero_right]
              have hgp : 0 < a := by rw [hga]; exact Nat.gcd_pos_of_pos_right _ hj0
              refine lv_iload_n hx hb dX4_share_84 rfl (lv_at hl 5 rfl) ?_
              refine lv_if_ne (tgt := 96) hx hb dX4_share_85 (by decide) (fun c85 => ?_) (fun c85 => ?_)
              · -- taken
                refine lv_lload_n hx hb dX4_share_96 rfl (lv_at hl 4 rfl) ?_
                refine lv_lload hx hb dX4_share_97 (lv_at hl 1 rfl) ?_
                refine lv_ldiv hx hb dX4_share_99 (by rw [← show lN 0 = 0 from rfl, pk_lEQ (by omega) (by decide)]; omega) ?_
                refine oc_topl (x := x / (lN a)) (y := lN (j / Nat.gcd f j)) (by rw [hxj, ← hga]; exact pk_lDiv (by omega) (by omega) (by omega)) ?_
                exact oc_lret hx hb hr hlocks hS dX4_share_100 ⟨_, _, _, _, rfl, hP, rfl, rfl, ⟨rfl, rfl, Or.inr (Or.inr ⟨by simp [oc_sok, c8, c18], c31, rfl, j, hj0, hj, hxj, by simp [c85]⟩)⟩⟩
              · -- not taken
                refine lv_lload hx hb dX4_share_88 (lv_at hl 2 rfl) ?_
                refine lv_lload hx hb dX4_share_90 (lv_at hl 1 rfl) ?_
                refine lv_ldiv hx hb dX4_share_92 (by rw [← show lN 0 = 0 from rfl, pk_lEQ (by omega) (by decide)]; omega) ?_
                refine oc_topl (x := (lN f) / (lN a)) (y := lN (f / Nat.gcd f j)) (by rw [← hga]; exact pk_lDiv (by omega) (by omega) (by omega)) ?_
                refine lv_goto (tgt := 100) hx hb dX4_share_93 (by decide) ?_
                exact oc_lret hx hb hr hlocks hS dX4_share_100 ⟨_, _, _, _, rfl, hP, rfl, rfl, ⟨rfl, rfl, Or.inr (Or.inr ⟨by simp [oc_sok, c8, c18], c31, rfl, j, hj0, hj, hxj, by simp [c85]⟩)⟩⟩
            · -- not taken
              rw [lg_cmp_le] at c63
              have hb0 : 0 < b := by
                rw [← show lN 0 = 0 from rfl, pk_lLE (by omega) (by decide)] at c63
                omega
              refine lv_lload hx hb dX4_share_66 (lv_at hl 1 rfl) ?_
              refine lv_lload hx hb dX4_share_68 (lv_at hl 0 rfl) ?_
              refine lv_lrem hx hb dX4_share_70 (by rw [← show lN 0 = 0 from rfl, pk_lEQ (by omega) (by decide)]; omega) ?_
              refine oc_topl (x := (lN a) - (lN a) / (lN b) * (lN b)) (y := lN (a % b)) (pk_lRem (by omega) (by omega) (by omega)) ?_
              refine lv_lstore (lv' := [(10, .long (lN (a % b))), (8, .long (lN b)), (6, .long (lN a)), (4, .long (lN f)), (0, .ref (h 0)), (1, .long x), (3, .int y)]) hx hb dX4_share_71 hl (by decide) rfl (fun ls hl => ?_)
              refine lv_lload hx hb dX4_share_73 (lv_at hl 1 rfl) ?_
              refine lv_lstore (lv' := [(6, .long (lN b)), (10, .long (lN (a % b))), (8, .long (lN b)), (4, .long (lN f)), (0, .ref (h 0)), (1, .long x), (3, .int y)]) hx hb dX4_share_75 hl (by decide) rfl (fun ls hl => ?_)
              refine lv_lload hx hb dX4_share_77 (lv_at hl 1 rfl) ?_
              refine lv_lstore (lv' := [(8, .long (lN (a % b))), (6, .long (lN b)), (10, .long (lN (a % b))), (4, .long (lN f)), (0, .ref (h 0)), (1, .long x), (3, .int y)]) hx hb dX4_share_79 hl (by decide) rfl (fun ls hl => ?_)
              refine lv_goto (tgt := 59) hx hb dX4_share_81 (by decide) ?_
              exact ih59 b (a % b) (⟨by omega, by have := Nat.mod_lt a hb0; omega⟩) (by have := Nat.mod_lt a hb0; omega) (by rw [← hg, Nat.gcd_comm a b, Nat.gcd_rec b a, Nat.gcd_comm]) ls (lv_sub hl [0, 1, 3, 4, 5, 6] rfl)
        exact lp59 (j + 1) f j (by omega) (by omega) rfl ls (lv_sub hl [0, 1, 2, 3, 4, 5] rfl)
      · -- not taken
        rw [lg_cmp_eq] at c31
        refine lv_aload_n hx hb dX4_share_34 rfl (lv_at hl 0 rfl) ?_
        refine lv_iconst (v := 2) hx hb dX4_share_35 (by decide) ?_
        refine oc_callM hx hb hml hl.1 ⟨hok, hS, hN0⟩ (oc_iV (As := [.int 2]) (rest := []) hx hb hown (hts _ q923) (hts _ q925) (hts _ qs14) (oc_Sig.of (hts _ q926) (by decide +kernel : (parseMethodDescriptor "(I)I").map (fun d => d.parameters.length) = some 1)) (va_recv hK hP (ci := 3) (q0 := 0) rfl rfl) ⟨by decide, by decide⟩ dX4_share_36 rfl) (oc_M.of (by decide +kernel) (hts _ q926)) (kX4_refuse G hP hD hN0 2) (fun _ z => z) dX4_share_36 (Nat.le_of_ble_eq_true rfl) (Nat.le_of_ble_eq_true rfl) (Nat.le_of_ble_eq_true rfl) (Nat.le_of_ble_eq_true rfl) (fun v I_ F_ L_ H locs sp hP hz1 hk1 hS => ?_)
        obtain ⟨rfl, e2, e3, e4⟩ := sp
        rw [e2, e3, e4] at hP
        clear e2 e3 e4
        have hD : va_D (oc_hA h) (oc_mW d h (upd I 0 2) F L) := oc_mD hD
        refine W.eq (g2 := F0 m 39 ls [.int 0]) rfl ?_
        refine lv_i2l (v := (0 : Int32).toInt64) hx hb dX4_share_39 rfl ?_
        exact oc_lret hx hb hr hlocks hS dX4_share_40 ⟨_, _, _, _, rfl, hP, rfl, rfl, ⟨rfl, rfl, Or.inr (Or.inl ⟨by simp [oc_sok, c8, c18], c31, rfl, rfl⟩)⟩⟩
    · -- not taken
      rw [oc_b0] at c18
      refine lv_aload_n hx hb dX4_share_21 rfl (lv_at hl 0 rfl) ?_
      refine lv_iconst (v := 1) hx hb dX4_share_22 (by decide) ?_
      refine oc_callM hx hb hml hl.1 ⟨hok, hS, hN0⟩ (oc_iV (As := [.int 1]) (rest := []) hx hb hown (hts _ q923) (hts _ q925) (hts _ qs14) (oc_Sig.of (hts _ q926) (by decide +kernel : (parseMethodDescriptor "(I)I").map (fun d => d.parameters.length) = some 1)) (va_recv hK hP (ci := 3) (q0 := 0) rfl rfl) ⟨by decide, by decide⟩ dX4_share_23 rfl) (oc_M.of (by decide +kernel) (hts _ q926)) (kX4_refuse G hP hD hN0 1) (fun _ z => z) dX4_share_23 (Nat.le_of_ble_eq_true rfl) (Nat.le_of_ble_eq_true rfl) (Nat.le_of_ble_eq_true rfl) (Nat.le_of_ble_eq_true rfl) (fun v I_ F_ L_ H locs sp hP hz1 hk1 hS => ?_)
      obtain ⟨rfl, e2, e3, e4⟩ := sp
      rw [e2, e3, e4] at hP
      clear e2 e3 e4
      have hD : va_D (oc_hA h) (oc_mW d h (upd I 0 1) F L) := oc_mD hD
      refine W.eq (g2 := F0 m 26 ls [.int 0]) rfl ?_
      refine lv_i2l (v := (0 : Int32).toInt64) hx hb dX4_share_26 rfl ?_
      exact oc_lret hx hb hr hlocks hS dX4_share_27 ⟨_, _, _, _, rfl, hP, rfl, rfl, ⟨rfl, rfl, Or.inl ⟨by simp [oc_sok, *], rfl, rfl⟩⟩⟩
def oc_dg (x y : Int32) : Int32 := x / y - x / y / 10 * 10
def oc_p10 (j : Nat) : Nat := 100000 / 10 ^ j
/-- the first j digits of the row at b begin the code x -/
def oc_bi (f : Nat → Int32) (x : Int32) (b : Nat) : Nat → Bool
  | 0 => true
  | j + 1 => oc_bi f x b j && decide (f (b + j) - 48 = oc_dg x (nI (oc_p10 j)))
def oc_bg (f : Nat → Int32) (x : Int32) (b q : Nat) : Nat := if oc_bi f x b q = true then q else 0
theorem oc_p10_1 : ∀ j, j < 6 → 0 < oc_p10 j ∧ oc_p10 j ≤ 100000 := by decide
theorem oc_p10_2 : ∀ j, j < 6 → oc_p10 j / 10 = oc_p10 (j + 1) := by decide
/-- the row that goes with a code: nn r: how many digits of row r begin it -/
def oc_ro (nn : Nat → Nat) : Nat → Option Nat × Nat
  | 0 => (none, 1)
  | r + 1 => if (oc_ro nn r).2 ≤ nn r then (some r, nn r) else oc_ro nn r
def oc_rv : Option Nat → Int32
  | none => -1
  | some r => nI r
/-- a row's digits stand at b, q of them, and a ':' behind -/
def oc_Rw (f : Nat → Int32) (b q : Nat) : Prop := q ≤ 6 ∧ b + q < 300 ∧ (∀ j, j < q → ¬ f (b + j) = 58) ∧ f (b + q) = 58
set_option maxHeartbeats 4000000 in
set_option maxRecDepth 100000 in
theorem kX4_begin {l : Launch} {s0 : State} {b0 : Addr} {D : va_G} {d : Nat → ClassId} (G : oc_G l s0 b0 D d) {h : Nat → Nat} {I : Nat → Int32} {F : Nat → Nat → Int32} {L : Nat → Int64} {H : Heap} (hP : va_P D oc_cl (oc_mW d h I F L) H) (x : Int32) (r b q : Nat) (hr2 : r < 21) (hbb : F 4 r = nI b) (hw : oc_Rw (F 3) b q) : oc_C l s0 yX4_begin (oc_rm 0 0 0 0) [.ref (h 0), .int (nI r), .int x] H oc_N (oc_R (some (.int (nI (oc_bg (F 3) x b q)))) H) := by
  refine oc_start G (cc := cX4_begin) (L := 7) (ret := (Option.some Jvm.ClassFile.FieldType.int)) q972 (Nat.le_of_ble_eq_true rfl) ?_
  intro p e s m below meth c ls hx hok hb hml hr hlocks htab hown hts hK hmn hh hl
  subst hh
  have hl : lv_has ls 7 [(0, .ref (h 0)), (1, .int (nI r)), (2, .int x)] := hl
  have hZ := oc_Z0 hok
  obtain ⟨hq6, hbq, hw1, hw2⟩ := hw
  refine lv_iconst (v := 0) hx hb dX4_begin_0 (by decide) ?_
  refine lv_istore_n (lv' := [(3, .int 0), (0, .ref (h 0)), (1, .int (nI r)), (2, .int x)]) hx hb dX4_begin_1 rfl hl (by decide) rfl (fun ls hl => ?_)
  refine lv_ldc hx hb hown (hts _ q973) dX4_begin_2 ?_
  refine lv_istore (lv' := [(4, .int 100000), (3, .int 0), (0, .ref (h 0)), (1, .int (nI r)), (2, .int x)]) hx hb dX4_begin_4 hl (by decide) rfl (fun ls hl => ?_)
  refine lv_iconst (v := 1) hx hb dX4_begin_6 (by decide) ?_
  refine lv_istore (lv' := [(5, .int 1), (4, .int 100000), (3, .int 0), (0, .ref (h 0)), (1, .int (nI r)), (2, .int x)]) hx hb dX4_begin_7 hl (by decide) rfl (fun ls hl => ?_)
  refine lv_aload_n hx hb dX4_begin_9 rfl (lv_at hl 3 rfl) ?_
  refine va_get (D := D) (ci := 3) (v := .ref (h 4)) (C := RX4) (T := TX4) (N := 27) hx hb hts in_X4 hown hK hP 0 rfl rfl 4 (by decide) (hts _ q811) (fun _ h9 => h9) rfl dX4_begin_10 ?_
  refine lv_iload_n hx hb dX4_begin_13 rfl (lv_at hl 4 rfl) ?_
  refine oc_iald hx hb hK hP 3 0 rfl rfl r rfl (by omega) (by decide) dX4_begin_14 ?_
  refine oc_topi (x := (F 4) r) (y := nI (b + 0)) hbb ?_
  refine lv_istore (lv' := [(6, .int (nI (b + 0))), (5, .int 1), (4, .int 100000), (3, .int 0), (0, .ref (h 0)), (1, .int (nI r)), (2, .int x)]) hx hb dX4_begin_15 hl (by decide) rfl (fun ls hl => ?_)
  have lp17 : ∀ (n : Nat) (j : Nat) (o : Int32), j ≤ q → q + 1 ≤ j + n → o = oc_b (oc_bi (F 3) x b j) → ∀ (ls : Array Slot), lv_has ls 7 [(6, .int (nI (b + j))), (5, .int o), (4, .int (nI (oc_p10 j))), (3, .int (nI j)), (0, .ref (h 0)), (1, .int (nI r)), (2, .int x)] → W p l e (oc_rm 0 0 0 0) s m ([.ref (h 0), .int (nI r), .int x] : List Value).toArray below meth c s.heap [] 0 0 (oc_Q oc_N below s (oc_R (some (.int (nI (oc_bg (F 3) x b q)))) s.heap)) (F0 m 17 ls []) := by
    intro n
    induction n with
    | zero => intro j o hj hn eo ls hl; exact absurd hn (by omega)
    | succ n ih17 =>
      intro j o hj hn eo ls hl
      subst eo
      refine lv_aload_n hx hb dX4_begin_17 rfl (lv_at hl 4 rfl) ?_
      refine va_get (D := D) (ci := 3) (v := .ref (h 3)) (C := RX4) (T := TX4) (N := 27) hx hb hts in_X4 hown hK hP 0 rfl rfl 3 (by decide) (hts _ q810) (fun _ h9 => h9) rfl dX4_begin_18 ?_
      refine lv_iload hx hb dX4_begin_21 (lv_at hl 0 rfl) ?_
      refine oc_iald hx hb hK hP 2 0 rfl rfl (b + j) rfl (by omega) (by decide) dX4_begin_23 ?_
      refine lv_bipush (v := 58) hx hb dX4_begin_24 (by decide) ?_
      refine lv_icmp_eq (tgt := 77) hx hb dX4_begin_26 (by decide) (fun c26 => ?_) (fun c26 => ?_)
      · -- taken
        have hjq : j = q := by
          rcases Nat.lt_or_ge j q with z | z
          · exact absurd c26 (hw1 j z)
          · omega
        subst hjq
        refine lv_iload hx hb dX4_begin_77 (lv_at hl 1 rfl) ?_
        refine lv_if_eq (tgt := 86) hx hb dX4_begin_79 (by decide) (fun c79 => ?_) (fun c79 => ?_)
        · -- taken
          rw [oc_b0] at c79
          refine lv_iconst (v := 0) hx hb dX4_begin_86 (by decide) ?_
          exact oc_iret hx hb hr hlocks va_S.rf dX4_begin_87 (oc_Ri (by simp [oc_bg, *]; rfl))
        · -- not taken
          rw [oc_b0] at c79
          rw [Bool.not_eq_false] at c79
          refine lv_iload_n hx hb dX4_begin_82 rfl (lv_at hl 3 rfl) ?_
          refine lv_goto (tgt := 87) hx hb dX4_begin_83 (by decide) ?_
          exact oc_iret hx hb hr hlocks va_S.rf dX4_begin_87 (oc_Ri (by simp [oc_bg, *]))
      · -- not taken
        have hjq : j < q := by
          rcases Nat.lt_or_ge j q with z | z
          · exact z
          · exact absurd (by rw [show j = q by omega]; exact hw2) c26
        have hp10 := oc_p10_1 j (by omega)
        refine oc_cut (g2 := F0 m 59 ls [.int (oc_b (oc_bi (F 3) x b (j + 1)))]) ?_ (fun K59 => ?_)
        · -- behind 59
          refine lv_istore (lv' := [(5, .int (oc_b (oc_bi (F 3) x b (j + 1)))), (6, .int (nI (b + j))), (4, .int (nI (oc_p10 j))), (3, .int (nI j)), (0, .ref (h 0)), (1, .int (nI r)), (2, .int x)]) hx hb dX4_begin_59 hl (by decide) rfl (fun ls hl => ?_)
          refine lv_iload hx hb dX4_begin_61 (lv_at hl 2 rfl) ?_
          refine lv_bipush (v := 10) hx hb dX4_begin_63 (by decide) ?_
          refine lv_idiv hx hb dX4_begin_65 (by decide) ?_
          refine oc_topi (x := (nI (oc_p10 j)) / 10) (y := nI (oc_p10 (j + 1))) (by rw [← oc_p10_2 j (by omega)]; exact pk_div (d := 10) (by omega) (by omega) (by omega)) ?_
          refine lv_istore (lv' := [(4, .int (nI (oc_p10 (j + 1)))), (5, .int (oc_b (oc_bi (F 3) x b (j + 1)))), (6, .int (nI (b + j))), (3, .int (nI j)), (0, .ref (h 0)), (1, .int (nI r)), (2, .int x)]) hx hb dX4_begin_66 hl (by decide) rfl (fun ls hl => ?_)
          refine lv_iinc (v := nI (j + 1)) (lv' := [(3, .int (nI (j + 1))), (4, .int (nI (oc_p10 (j + 1)))), (5, .int (oc_b (oc_bi (F 3) x b (j + 1)))), (6, .int (nI (b + j))), (0, .ref (h 0)), (1, .int (nI r)), (2, .int x)]) hx hb dX4_begin_68 hl (k := 3) rfl (nI_1 j) (by decide) rfl (fun ls hl => ?_)
          refine lv_iinc (v := nI (b + (j + 1))) (lv' := [(6, .int (nI (b + (j + 1)))), (3, .int (nI (j + 1))), (4, .int (nI (oc_p10 (j + 1)))), (5, .int (oc_b (oc_bi (F 3) x b (j + 1)))), (0, .ref (h 0)), (1, .int (nI r)), (2, .int x)]) hx hb dX4_begin_71 hl (k := 3) rfl (nI_1 (b + j)) (by decide) rfl (fun ls hl => ?_)
          refine lv_goto (tgt := 17) hx hb dX4_begin_74 (by decide) ?_
          exact ih17 (j + 1) (oc_b (oc_bi (F 3) x b (j + 1))) (by omega) (by omega) rfl ls (lv_sub hl [0, 3, 2, 1, 4, 5, 6] rfl)
        · -- up to 59
          refine lv_iload hx hb dX4_begin_29 (lv_at hl 1 rfl) ?_
          refine lv_if_eq (tgt := 58) hx hb dX4_begin_31 (by decide) (fun c31 => ?_) (fun c31 => ?_)
          · -- taken
            rw [oc_b0] at c31
            refine lv_iconst (v := 0) hx hb dX4_begin_58 (by decide) ?_
            exact oc_topi (by simp [oc_bi, oc_dg, oc_b, *]) K59
          · -- not taken
            rw [oc_b0] at c31
            rw [Bool.not_eq_false] at c31
            refine lv_aload_n hx hb dX4_begin_34 rfl (lv_at hl 4 rfl) ?_
            refine va_get (D := D) (ci := 3) (v := .ref (h 3)) (C := RX4) (T := TX4) (N := 27) hx hb hts in_X4 hown hK hP 0 rfl rfl 3 (by decide) (hts _ q810) (fun _ h9 => h9) rfl dX4_begin_35 ?_
            refine lv_iload hx hb dX4_begin_38 (lv_at hl 0 rfl) ?_
            refine oc_iald hx hb hK hP 2 0 rfl rfl (b + j) rfl (by omega) (by decide) dX4_begin_40 ?_
            refine lv_bipush (v := 48) hx hb dX4_begin_41 (by decide) ?_
            refine lv_isub hx hb dX4_begin_43 ?_
            refine lv_iload_n hx hb dX4_begin_44 rfl (lv_at hl 6 rfl) ?_
            refine lv_iload hx hb dX4_begin_45 (lv_at hl 2 rfl) ?_
            refine lv_idiv hx hb dX4_begin_47 (by rw [← show nI 0 = 0 from rfl, nI_eq (by omega) (by omega)]; omega) ?_
            refine lv_bipush (v := 10) hx hb dX4_begin_48 (by decide) ?_
            refine lv_irem hx hb dX4_begin_50 (by decide) ?_
            refine lv_icmp_ne (tgt := 58) hx hb dX4_begin_51 (by decide) (fun c51 => ?_) (fun c51 => ?_)
            · -- taken
              refine lv_iconst (v := 0) hx hb dX4_begin_58 (by decide) ?_
              exact oc_topi (by simp [oc_bi, oc_dg, oc_b, *]) K59
            · -- not taken
              refine lv_iconst (v := 1) hx hb dX4_begin_54 (by decide) ?_
              refine lv_goto (tgt := 59) hx hb dX4_begin_55 (by decide) ?_
              exact oc_topi (by simp [oc_bi, oc_dg, oc_b, *]) K59
  exact lp17 (q + 1) 0 1 (by omega) (by omega) rfl ls (lv_sub hl [0, 1, 2, 3, 4, 5, 6] rfl)
theorem oc_bg_le {f : Nat → Int32} {x : Int32} {b q : Nat} : oc_bg f x b q ≤ q := by unfold oc_bg; split <;> omega
theorem oc_ro_le {nn : Nat → Nat} {N K : Nat} (h : ∀ r, r < N → nn r ≤ K) (hK : 1 ≤ K) : ∀ r, r ≤ N → (oc_ro nn r).2 ≤ K := by
  intro r
  induction r with
  | zero => intro _; exact hK
  | succ r ih =>
    intro hr
    unfold oc_ro
    split
    · exact h r (by omega)
    · exact ih (by omega)
set_option maxHeartbeats 4000000 in
set_option maxRecDepth 100000 in
theorem kX4_rowOf {l : Launch} {s0 : State} {b0 : Addr} {D : va_G} {d : Nat → ClassId} (G : oc_G l s0 b0 D d) {h : Nat → Nat} {I : Nat → Int32} {F : Nat → Nat → Int32} {L : Nat → Int64} {H : Heap} (hP : va_P D oc_cl (oc_mW d h I F L) H) (x : Int32) (N : Nat) (rb rq : Nat → Nat) (h5 : I 5 = nI N) (hN : N ≤ 20) (hR : ∀ r, r < N → F 4 r = nI (rb r) ∧ oc_Rw (F 3) (rb r) (rq r)) : oc_C l s0 yX4_rowOf (oc_rm 1 18 0 0) [.ref (h 0), .int x] H oc_N (oc_R (some (.int (oc_rv (oc_ro (fun r => oc_bg (F 3) x (rb r) (rq r)) N).1))) H) := by
  refine oc_start G (cc := cX4_rowOf) (L := 6) (ret := (Option.some Jvm.ClassFile.FieldType.int)) q968 (Nat.le_of_ble_eq_true rfl) ?_
  intro p e s m below meth c ls hx hok hb hml hr hlocks htab hown hts hK hmn hh hl
  subst hh
  have hl : lv_has ls 6 [(0, .ref (h 0)), (1, .int x)] := hl
  have hZ := oc_Z0 hok
  have hle := oc_ro_le (nn := (fun r => oc_bg (F 3) x (rb r) (rq r))) (N := N) (K := 6) (fun r hr => Nat.le_trans oc_bg_le (hR r hr).2.1) (by omega)
  refine lv_iconst (v := (-1)) hx hb dX4_rowOf_0 (by decide) ?_
  refine lv_istore_n (lv' := [(2, .int (-1)), (0, .ref (h 0)), (1, .int x)]) hx hb dX4_rowOf_1 rfl hl (by decide) rfl (fun ls hl => ?_)
  refine lv_iconst (v := 1) hx hb dX4_rowOf_2 (by decide) ?_
  refine lv_istore_n (lv' := [(3, .int 1), (2, .int (-1)), (0, .ref (h 0)), (1, .int x)]) hx hb dX4_rowOf_3 rfl hl (by decide) rfl (fun ls hl => ?_)
  refine lv_iconst (v := 0) hx hb dX4_rowOf_4 (by decide) ?_
  refine lv_istore (lv' := [(4, .int 0), (3, .int 1), (2, .int (-1)), (0, .ref (h 0)), (1, .int x)]) hx hb dX4_rowOf_5 hl (by decide) rfl (fun ls hl => ?_)
  have lp7 : ∀ (n : Nat) (r : Nat), r ≤ N → N + 1 ≤ r + n → ∀ (ls : Array Slot), lv_has ls 6 [(4, .int (nI r)), (3, .int (nI (oc_ro (fun r => oc_bg (F 3) x (rb r) (rq r)) r).2)), (2, .int (oc_rv (oc_ro (fun r => oc_bg (F 3) x (rb r) (rq r)) r).1)), (0, .ref (h 0)), (1, .int x)] → W p l e (oc_rm 1 18 0 0) s m ([.ref (h 0), .int x] : List Value).toArray below meth c s.heap [] 0 0 (oc_Q oc_N below s (oc_R (some (.int (oc_rv (oc_ro (fun r => oc_bg (F 3) x (rb r) (rq r)) N).1))) s.heap)) (F0 m 7 ls []) := by
    intro n
    induction n with
    | zero => intro r hrN hn ls hl; exact absurd hn (by omega)
    | succ n ih7 =>
      intro r hrN hn ls hl
      refine lv_iload hx hb dX4_rowOf_7 (lv_at hl 0 rfl) ?_
      refine lv_aload_n hx hb dX4_rowOf_9 rfl (lv_at hl 3 rfl) ?_
      refine va_get (D := D) (ci := 3) (v := .int (I 5)) (C := RX4) (T := TX4) (N := 27) hx hb hts in_X4 hown hK hP 0 rfl rfl 5 (by decide) (hts _ q812) (fun _ h9 => h9) rfl dX4_rowOf_10 ?_
      refine oc_topi (x := I 5) (y := nI N) h5 ?_
      refine lv_icmp_ge (tgt := 57) hx hb dX4_rowOf_13 (by decide) (fun c13 => ?_) (fun c13 => ?_)
      · -- taken
        rw [oc_le (x := nI N) (y := nI r) (a := N) (b := r) rfl rfl (by omega) (by omega)] at c13
        refine lv_iload_n hx hb dX4_rowOf_57 rfl (lv_at hl 2 rfl) ?_
        exact oc_iret hx hb hr hlocks va_S.rf dX4_rowOf_58 (oc_Ri (by rw [show r = N by omega]))
      · -- not taken
        rw [oc_le (x := nI N) (y := nI r) (a := N) (b := r) rfl rfl (by omega) (by omega)] at c13
        have h1 := hle r (by omega)
        have h2 : oc_bg (F 3) x (rb r) (rq r) ≤ 6 := Nat.le_trans oc_bg_le (hR r (by omega)).2.1
        refine lv_aload_n hx hb dX4_rowOf_16 rfl (lv_at hl 3 rfl) ?_
        refine lv_iload hx hb dX4_rowOf_17 (lv_at hl 0 rfl) ?_
        refine lv_iload_n hx hb dX4_rowOf_19 rfl (lv_at hl 4 rfl) ?_
        refine oc_callR1 hx hb hml hl.1 hZ (oc_iV (As := [.int (nI r), .int x]) (rest := []) hx hb hown (hts _ q969) (hts _ q971) (hts _ qs17) (oc_Sig.of (hts _ q972) (by decide +kernel : (parseMethodDescriptor "(II)I").map (fun d => d.parameters.length) = some 2)) (va_recv hK hP (ci := 3) (q0 := 0) rfl rfl) ⟨by decide, by decide⟩ dX4_rowOf_20 rfl) (oc_M.of (by decide +kernel) (hts _ q972)) (kX4_begin G hP x r (rb r) (rq r) (by omega) (hR r (by omega)).1 (hR r (by omega)).2) dX4_rowOf_20 (Nat.le_of_ble_eq_true rfl) (Nat.le_of_ble_eq_true rfl) (Nat.le_of_ble_eq_true rfl) (Nat.le_of_ble_eq_true rfl) ?_
        refine lv_istore (lv' := [(5, .int (nI (oc_bg (F 3) x (rb r) (rq r)))), (4, .int (nI r)), (3, .int (nI (oc_ro (fun r => oc_bg (F 3) x (rb r) (rq r)) r).2)), (2, .int (oc_rv (oc_ro (fun r => oc_bg (F 3) x (rb r) (rq r)) r).1)), (0, .ref (h 0)), (1, .int x)]) hx hb dX4_rowOf_23 hl (by decide) rfl (fun ls hl => ?_)
        refine oc_cut (g2 := F0 m 37 ls [.int (oc_rv (oc_ro (fun r => oc_bg (F 3) x (rb r) (rq r)) (r + 1)).1)]) ?_ (fun K37 => ?_)
        · -- behind 37
          refine lv_istore_n (lv' := [(2, .int (oc_rv (oc_ro (fun r => oc_bg (F 3) x (rb r) (rq r)) (r + 1)).1)), (5, .int (nI (oc_bg (F 3) x (rb r) (rq r)))), (4, .int (nI r)), (3, .int (nI (oc_ro (fun r => oc_bg (F 3) x (rb r) (rq r)) r).2)), (0, .ref (h 0)), (1, .int x)]) hx hb dX4_rowOf_37 rfl hl (by decide) rfl (fun ls hl => ?_)
          refine oc_cut (g2 := F0 m 50 ls [.int (nI (oc_ro (fun r => oc_bg (F 3) x (rb r) (rq r)) (r + 1)).2)]) ?_ (fun K50 => ?_)
          · -- behind 50
            refine lv_istore_n (lv' := [(3, .int (nI (oc_ro (fun r => oc_bg (F 3) x (rb r) (rq r)) (r + 1)).2)), (2, .int (oc_rv (oc_ro (fun r => oc_bg (F 3) x (rb r) (rq r)) (r + 1)).1)), (5, .int (nI (oc_bg (F 3) x (rb r) (rq r)))), (4, .int (nI r)), (0, .ref (h 0)), (1, .int x)]) hx hb dX4_rowOf_50 rfl hl (by decide) rfl (fun ls hl => ?_)
            refine lv_iinc (v := nI (r + 1)) (lv' := [(4, .int (nI (r + 1))), (3, .int (nI (oc_ro (fun r => oc_bg (F 3) x (rb r) (rq r)) (r + 1)).2)), (2, .int (oc_rv (oc_ro (fun r => oc_bg (F 3) x (rb r) (rq r)) (r + 1)).1)), (5, .int (nI (oc_bg (F 3) x (rb r) (rq r)))), (0, .ref (h 0)), (1, .int x)]) hx hb dX4_rowOf_51 hl (k := 3) rfl (nI_1 r) (by decide) rfl (fun ls hl => ?_)
            refine lv_goto (tgt := 7) hx hb dX4_rowOf_54 (by decide) ?_
            exact ih7 (r + 1) (by omega) (by omega) ls (lv_sub hl [0, 1, 2, 4, 5] rfl)
          · -- up to 50
            refine lv_iload hx hb dX4_rowOf_38 (lv_at hl 1 rfl) ?_
            refine lv_iload_n hx hb dX4_rowOf_40 rfl (lv_at hl 3 rfl) ?_
            refine lv_icmp_lt (tgt := 49) hx hb dX4_rowOf_41 (by decide) (fun c41 => ?_) (fun c41 => ?_)
            · -- taken
              rw [oc_lt (x := nI (oc_bg (F 3) x (rb r) (rq r))) (y := nI (oc_ro (fun r => oc_bg (F 3) x (rb r) (rq r)) r).2) (a := (oc_bg (F 3) x (rb r) (rq r))) (b := (oc_ro (fun r => oc_bg (F 3) x (rb r) (rq r)) r).2) rfl rfl (by omega) (by omega)] at c41
              have hcmp : ¬ (oc_ro (fun r => oc_bg (F 3) x (rb r) (rq r)) r).2 ≤ oc_bg (F 3) x (rb r) (rq r) := by omega
              refine lv_iload_n hx hb dX4_rowOf_49 rfl (lv_at hl 3 rfl) ?_
              exact oc_topi (by simp [oc_ro, hcmp]) K50
            · -- not taken
              rw [oc_lt (x := nI (oc_bg (F 3) x (rb r) (rq r))) (y := nI (oc_ro (fun r => oc_bg (F 3) x (rb r) (rq r)) r).2) (a := (oc_bg (F 3) x (rb r) (rq r))) (b := (oc_ro (fun r => oc_bg (F 3) x (rb r) (rq r)) r).2) rfl rfl (by omega) (by omega)] at c41
              have hcmp : (oc_ro (fun r => oc_bg (F 3) x (rb r) (rq r)) r).2 ≤ oc_bg (F 3) x (rb r) (rq r) := by omega
              refine lv_iload hx hb dX4_rowOf_44 (lv_at hl 1 rfl) ?_
              refine lv_goto (tgt := 50) hx hb dX4_rowOf_46 (by decide) ?_
              exact oc_topi (by simp [oc_ro, hcmp]) K50
        · -- up to 37
          refine lv_iload hx hb dX4_rowOf_25 (lv_at hl 0 rfl) ?_
          refine lv_iload_n hx hb dX4_rowOf_27 rfl (lv_at hl 2 rfl) ?_
          refine lv_icmp_lt (tgt := 36) hx hb dX4_rowOf_28 (by decide) (fun c28 => ?_) (fun c28 => ?_)
          · -- taken
            rw [oc_lt (x := nI (oc_bg (F 3) x (rb r) (rq r))) (y := nI (oc_ro (fun r => oc_bg (F 3) x (rb r) (rq r)) r).2) (a := (oc_bg (F 3) x (rb r) (rq r))) (b := (oc_ro (fun r => oc_bg (F 3) x (rb r) (rq r)) r).2) rfl rfl (by omega) (by omega)] at c28
            have hcmp : ¬ (oc_ro (fun r => oc_bg (F 3) x (rb r) (rq r)) r).2 ≤ oc_bg (F 3) x (rb r) (rq r) := by omega
            refine lv_iload_n hx hb dX4_rowOf_36 rfl (lv_at hl 3 rfl) ?_
            exact oc_topi (by simp [oc_ro, hcmp]; try rfl) K37
          · -- not taken
            rw [oc_lt (x := nI (oc_bg (F 3) x (rb r) (rq r))) (y := nI (oc_ro (fun r => oc_bg (F 3) x (rb r) (rq r)) r).2) (a := (oc_bg (F 3) x (rb r) (rq r))) (b := (oc_ro (fun r => oc_bg (F 3) x (rb r) (rq r)) r).2) rfl rfl (by omega) (by omega)] at c28
            have hcmp : (oc_ro (fun r => oc_bg (F 3) x (rb r) (rq r)) r).2 ≤ oc_bg (F 3) x (rb r) (rq r) := by omega
            refine lv_iload hx hb dX4_rowOf_31 (lv_at hl 1 rfl) ?_
            refine lv_goto (tgt := 37) hx hb dX4_rowOf_33 (by decide) ?_
            exact oc_topi (by simp [oc_ro, hcmp]; try rfl) K37
  exact lp7 (N + 1) 0 (by omega) (by omega) ls (lv_sub hl [0, 1, 2, 3, 4] rfl)
