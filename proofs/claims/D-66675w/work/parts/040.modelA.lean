/-! ===== OriginRulesModel: its world, and the methods that only answer ===== -/
abbrev oc_mF (h : Nat → Nat) (I : Nat → Int32) : List Value := [.int (I 0), .ref (h 1), .int (I 2), .ref (h 3), .ref (h 4), .int (I 5), .ref (h 6), .int (I 7), .ref (h 8), .ref (h 9), .ref (h 10), .int (I 11), .int (I 12), .ref (h 13), .int (I 14), .int (I 15), .int (I 16), .int (I 17), .int (I 18), .ref (h 19), .ref (h 20), .ref (h 21), .int (I 22), .ref (h 23), .ref (h 24), .ref (h 25), .ref (h 26)]
abbrev oc_mW (d : Nat → ClassId) (h : Nat → Nat) (I : Nat → Int32) (F : Nat → Nat → Int32) (L : Nat → Int64) : va_W := [(h 0, .inr (3, oc_mF h I)), (h 1, .inl (d 0, 300, .inl (F 1))), (h 3, .inl (d 0, 300, .inl (F 3))), (h 4, .inl (d 0, 21, .inl (F 4))), (h 6, .inl (d 0, 21, .inl (F 6))), (h 8, .inl (d 0, 12, .inl (F 8))), (h 9, .inl (d 0, 12, .inl (F 9))), (h 10, .inl (d 3, 12, .inr (.inl L))), (h 13, .inl (d 1, 100, .inl (F 13))), (h 19, .inl (d 0, 20, .inl (F 19))), (h 20, .inl (d 0, 20, .inl (F 20))), (h 21, .inl (d 0, 20, .inl (F 21))), (h 23, .inl (d 0, 300, .inl (F 23))), (h 24, .inl (d 1, 9, .inl (F 24))), (h 25, .inl (d 1, 9, .inl (F 25))), (h 26, .inl (d 1, 9, .inl (F 26)))]
def oc_in (v a b : Int64) : Bool := !(decide (v < a)) && !(decide (b < v))
def oc_dig (c : Int32) : Bool := !(decide (c < 48)) && !(decide (57 < c))
def oc_beh (c k : Int32) : Int32 := if c = 38 ∨ c = 124 then 2 else if c = 41 ∧ 0 < k then 3 else if c = 59 ∧ k = 0 then 0 else -1
def oc_ahd (c k : Int32) : Int32 := if c = 87 ∨ c = 67 ∨ c = 72 ∨ c = 83 then 3 else if c = 86 then 4 else if c = 80 then 5 else if c = 40 ∧ k < 8 then 2 else -1
set_option maxHeartbeats 4000000 in
set_option maxRecDepth 100000 in
theorem kX4_in {l : Launch} {s0 : State} {b0 : Addr} {D : va_G} {d : Nat → ClassId} (G : oc_G l s0 b0 D d) {H : Heap} (v a b : Int64) : oc_C l s0 yX4_in (oc_rm 0 0 0 0) [.long v, .long a, .long b] H oc_N (oc_R (some (.int (oc_b (oc_in v a b)))) H) := by
  refine oc_start G (cc := cX4_in) (L := 6) (ret := (Option.some Jvm.ClassFile.FieldType.boolean)) q902 (Nat.le_of_ble_eq_true rfl) ?_
  intro p e s m below meth c ls hx hok hb hml hr hlocks htab hown hts hK hmn hh hl
  subst hh
  have hl : lv_has ls 6 [(0, .long v), (2, .long a), (4, .long b)] := hl
  have hZ := oc_Z0 hok
  refine lv_lload_n hx hb dX4_in_0 rfl (lv_at hl 0 rfl) ?_
  refine lv_lload_n hx hb dX4_in_1 rfl (lv_at hl 1 rfl) ?_
  refine W.lcmp hx hb dX4_in_2 ?_
  refine lv_if_lt (tgt := 17) hx hb dX4_in_3 (by decide) (fun c3 => ?_) (fun c3 => ?_)
  · -- taken
    rw [lg_cmp_lt] at c3
    refine lv_iconst (v := 0) hx hb dX4_in_17 (by decide) ?_
    exact oc_zret hx hb hr hlocks va_S.rf dX4_in_18 rfl (oc_Ri (by first | (simp [oc_in, oc_b, *]; done) | (exfalso; grind)))
  · -- not taken
    rw [lg_cmp_lt] at c3
    refine lv_lload_n hx hb dX4_in_6 rfl (lv_at hl 0 rfl) ?_
    refine lv_lload hx hb dX4_in_7 (lv_at hl 2 rfl) ?_
    refine W.lcmp hx hb dX4_in_9 ?_
    refine lv_if_gt (tgt := 17) hx hb dX4_in_10 (by decide) (fun c10 => ?_) (fun c10 => ?_)
    · -- taken
      rw [lg_cmp_gt] at c10
      refine lv_iconst (v := 0) hx hb dX4_in_17 (by decide) ?_
      exact oc_zret hx hb hr hlocks va_S.rf dX4_in_18 rfl (oc_Ri (by first | (simp [oc_in, oc_b, *]; done) | (exfalso; grind)))
    · -- not taken
      rw [lg_cmp_gt] at c10
      refine lv_iconst (v := 1) hx hb dX4_in_13 (by decide) ?_
      refine lv_goto (tgt := 18) hx hb dX4_in_14 (by decide) ?_
      exact oc_zret hx hb hr hlocks va_S.rf dX4_in_18 rfl (oc_Ri (by first | (simp [oc_in, oc_b, *]; done) | (exfalso; grind)))
set_option maxHeartbeats 4000000 in
set_option maxRecDepth 100000 in
theorem kX4_isDigit {l : Launch} {s0 : State} {b0 : Addr} {D : va_G} {d : Nat → ClassId} (G : oc_G l s0 b0 D d) {H : Heap} (x : Int32) : oc_C l s0 yX4_isDigit (oc_rm 0 0 0 0) [.int x] H oc_N (oc_R (some (.int (oc_b (oc_dig x)))) H) := by
  refine oc_start G (cc := cX4_isDigit) (L := 1) (ret := (Option.some Jvm.ClassFile.FieldType.boolean)) q909 (Nat.le_of_ble_eq_true rfl) ?_
  intro p e s m below meth c ls hx hok hb hml hr hlocks htab hown hts hK hmn hh hl
  subst hh
  have hl : lv_has ls 1 [(0, .int x)] := hl
  have hZ := oc_Z0 hok
  refine lv_iload_n hx hb dX4_isDigit_0 rfl (lv_at hl 0 rfl) ?_
  refine lv_bipush (v := 48) hx hb dX4_isDigit_1 (by decide) ?_
  refine lv_icmp_lt (tgt := 16) hx hb dX4_isDigit_3 (by decide) (fun c3 => ?_) (fun c3 => ?_)
  · -- taken
    refine lv_iconst (v := 0) hx hb dX4_isDigit_16 (by decide) ?_
    exact oc_zret hx hb hr hlocks va_S.rf dX4_isDigit_17 rfl (oc_Ri (by first | (simp [oc_dig, oc_b, *]; done) | (exfalso; grind)))
  · -- not taken
    refine lv_iload_n hx hb dX4_isDigit_6 rfl (lv_at hl 0 rfl) ?_
    refine lv_bipush (v := 57) hx hb dX4_isDigit_7 (by decide) ?_
    refine lv_icmp_gt (tgt := 16) hx hb dX4_isDigit_9 (by decide) (fun c9 => ?_) (fun c9 => ?_)
    · -- taken
      refine lv_iconst (v := 0) hx hb dX4_isDigit_16 (by decide) ?_
      exact oc_zret hx hb hr hlocks va_S.rf dX4_isDigit_17 rfl (oc_Ri (by first | (simp [oc_dig, oc_b, *]; done) | (exfalso; grind)))
    · -- not taken
      refine lv_iconst (v := 1) hx hb dX4_isDigit_12 (by decide) ?_
      refine lv_goto (tgt := 17) hx hb dX4_isDigit_13 (by decide) ?_
      exact oc_zret hx hb hr hlocks va_S.rf dX4_isDigit_17 rfl (oc_Ri (by first | (simp [oc_dig, oc_b, *]; done) | (exfalso; grind)))
set_option maxHeartbeats 4000000 in
set_option maxRecDepth 100000 in
theorem kX4_behind {l : Launch} {s0 : State} {b0 : Addr} {D : va_G} {d : Nat → ClassId} (G : oc_G l s0 b0 D d) {H : Heap} (x k : Int32) : oc_C l s0 yX4_behind (oc_rm 0 0 0 0) [.int x, .int k] H oc_N (oc_R (some (.int (oc_beh x k))) H) := by
  refine oc_start G (cc := cX4_behind) (L := 2) (ret := (Option.some Jvm.ClassFile.FieldType.int)) q915 (Nat.le_of_ble_eq_true rfl) ?_
  intro p e s m below meth c ls hx hok hb hml hr hlocks htab hown hts hK hmn hh hl
  subst hh
  have hl : lv_has ls 2 [(0, .int x), (1, .int k)] := hl
  have hZ := oc_Z0 hok
  refine lv_iload_n hx hb dX4_behind_0 rfl (lv_at hl 0 rfl) ?_
  refine lv_bipush (v := 38) hx hb dX4_behind_1 (by decide) ?_
  refine lv_icmp_eq (tgt := 12) hx hb dX4_behind_3 (by decide) (fun c3 => ?_) (fun c3 => ?_)
  · -- taken
    refine lv_iconst (v := 2) hx hb dX4_behind_12 (by decide) ?_
    refine lv_goto (tgt := 45) hx hb dX4_behind_13 (by decide) ?_
    exact oc_iret hx hb hr hlocks va_S.rf dX4_behind_45 (oc_Ri (by first | (simp [oc_beh, oc_b, *]; done) | (exfalso; grind)))
  · -- not taken
    refine lv_iload_n hx hb dX4_behind_6 rfl (lv_at hl 0 rfl) ?_
    refine lv_bipush (v := 124) hx hb dX4_behind_7 (by decide) ?_
    refine lv_icmp_ne (tgt := 16) hx hb dX4_behind_9 (by decide) (fun c9 => ?_) (fun c9 => ?_)
    · -- taken
      refine lv_iload_n hx hb dX4_behind_16 rfl (lv_at hl 0 rfl) ?_
      refine lv_bipush (v := 41) hx hb dX4_behind_17 (by decide) ?_
      refine lv_icmp_ne (tgt := 30) hx hb dX4_behind_19 (by decide) (fun c19 => ?_) (fun c19 => ?_)
      · -- taken
        refine lv_iload_n hx hb dX4_behind_30 rfl (lv_at hl 0 rfl) ?_
        refine lv_bipush (v := 59) hx hb dX4_behind_31 (by decide) ?_
        refine lv_icmp_ne (tgt := 44) hx hb dX4_behind_33 (by decide) (fun c33 => ?_) (fun c33 => ?_)
        · -- taken
          refine lv_iconst (v := (-1)) hx hb dX4_behind_44 (by decide) ?_
          exact oc_iret hx hb hr hlocks va_S.rf dX4_behind_45 (oc_Ri (by first | (simp [oc_beh, oc_b, *]; done) | (exfalso; grind)))
        · -- not taken
          refine lv_iload_n hx hb dX4_behind_36 rfl (lv_at hl 1 rfl) ?_
          refine lv_if_ne (tgt := 44) hx hb dX4_behind_37 (by decide) (fun c37 => ?_) (fun c37 => ?_)
          · -- taken
            refine lv_iconst (v := (-1)) hx hb dX4_behind_44 (by decide) ?_
            exact oc_iret hx hb hr hlocks va_S.rf dX4_behind_45 (oc_Ri (by first | (simp [oc_beh, oc_b, *]; done) | (exfalso; grind)))
          · -- not taken
            refine lv_iconst (v := 0) hx hb dX4_behind_40 (by decide) ?_
            refine lv_goto (tgt := 45) hx hb dX4_behind_41 (by decide) ?_
            exact oc_iret hx hb hr hlocks va_S.rf dX4_behind_45 (oc_Ri (by first | (simp [oc_beh, oc_b, *]; done) | (exfalso; grind)))
      · -- not taken
        refine lv_iload_n hx hb dX4_behind_22 rfl (lv_at hl 1 rfl) ?_
        refine lv_if_le (tgt := 30) hx hb dX4_behind_23 (by decide) (fun c23 => ?_) (fun c23 => ?_)
        · -- taken
          refine lv_iload_n hx hb dX4_behind_30 rfl (lv_at hl 0 rfl) ?_
          refine lv_bipush (v := 59) hx hb dX4_behind_31 (by decide) ?_
          refine lv_icmp_ne (tgt := 44) hx hb dX4_behind_33 (by decide) (fun c33 => ?_) (fun c33 => ?_)
          · -- taken
            refine lv_iconst (v := (-1)) hx hb dX4_behind_44 (by decide) ?_
            exact oc_iret hx hb hr hlocks va_S.rf dX4_behind_45 (oc_Ri (by first | (simp [oc_beh, oc_b, *]; done) | (exfalso; grind)))
          · -- not taken
            refine lv_iload_n hx hb dX4_behind_36 rfl (lv_at hl 1 rfl) ?_
            refine lv_if_ne (tgt := 44) hx hb dX4_behind_37 (by decide) (fun c37 => ?_) (fun c37 => ?_)
            · -- taken
              refine lv_iconst (v := (-1)) hx hb dX4_behind_44 (by decide) ?_
              exact oc_iret hx hb hr hlocks va_S.rf dX4_behind_45 (oc_Ri (by first | (simp [oc_beh, oc_b, *]; done) | (exfalso; grind)))
            · -- not taken
              refine lv_iconst (v := 0) hx hb dX4_behind_40 (by decide) ?_
              refine lv_goto (tgt := 45) hx hb dX4_behind_41 (by decide) ?_
              exact oc_iret hx hb hr hlocks va_S.rf dX4_behind_45 (oc_Ri (by first | (simp [oc_beh, oc_b, *]; done) | (exfalso; grind)))
        · -- not taken
          refine lv_iconst (v := 3) hx hb dX4_behind_26 (by decide) ?_
          refine lv_goto (tgt := 45) hx hb dX4_behind_27 (by decide) ?_
          exact oc_iret hx hb hr hlocks va_S.rf dX4_behind_45 (oc_Ri (by first | (simp [oc_beh, oc_b, *]; done) | (exfalso; grind)))
    · -- not taken
      refine lv_iconst (v := 2) hx hb dX4_behind_12 (by decide) ?_
      refine lv_goto (tgt := 45) hx hb dX4_behind_13 (by decide) ?_
      exact oc_iret hx hb hr hlocks va_S.rf dX4_behind_45 (oc_Ri (by first | (simp [oc_beh, oc_b, *]; done) | (exfalso; grind)))
set_option maxHeartbeats 4000000 in
set_option maxRecDepth 100000 in
theorem kX4_ahead {l : Launch} {s0 : State} {b0 : Addr} {D : va_G} {d : Nat → ClassId} (G : oc_G l s0 b0 D d) {H : Heap} (x k : Int32) : oc_C l s0 yX4_ahead (oc_rm 0 0 0 0) [.int x, .int k] H oc_N (oc_R (some (.int (oc_ahd x k))) H) := by
  refine oc_start G (cc := cX4_ahead) (L := 2) (ret := (Option.some Jvm.ClassFile.FieldType.int)) q912 (Nat.le_of_ble_eq_true rfl) ?_
  intro p e s m below meth c ls hx hok hb hml hr hlocks htab hown hts hK hmn hh hl
  subst hh
  have hl : lv_has ls 2 [(0, .int x), (1, .int k)] := hl
  have hZ := oc_Z0 hok
  refine lv_iload_n hx hb dX4_ahead_0 rfl (lv_at hl 0 rfl) ?_
  refine lv_bipush (v := 87) hx hb dX4_ahead_1 (by decide) ?_
  refine lv_icmp_eq (tgt := 24) hx hb dX4_ahead_3 (by decide) (fun c3 => ?_) (fun c3 => ?_)
  · -- taken
    refine lv_iconst (v := 3) hx hb dX4_ahead_24 (by decide) ?_
    exact oc_iret hx hb hr hlocks va_S.rf dX4_ahead_25 (oc_Ri (by first | (simp [oc_ahd, oc_b, *]; done) | (exfalso; grind)))
  · -- not taken
    refine lv_iload_n hx hb dX4_ahead_6 rfl (lv_at hl 0 rfl) ?_
    refine lv_bipush (v := 67) hx hb dX4_ahead_7 (by decide) ?_
    refine lv_icmp_eq (tgt := 24) hx hb dX4_ahead_9 (by decide) (fun c9 => ?_) (fun c9 => ?_)
    · -- taken
      refine lv_iconst (v := 3) hx hb dX4_ahead_24 (by decide) ?_
      exact oc_iret hx hb hr hlocks va_S.rf dX4_ahead_25 (oc_Ri (by first | (simp [oc_ahd, oc_b, *]; done) | (exfalso; grind)))
    · -- not taken
      refine lv_iload_n hx hb dX4_ahead_12 rfl (lv_at hl 0 rfl) ?_
      refine lv_bipush (v := 72) hx hb dX4_ahead_13 (by decide) ?_
      refine lv_icmp_eq (tgt := 24) hx hb dX4_ahead_15 (by decide) (fun c15 => ?_) (fun c15 => ?_)
      · -- taken
        refine lv_iconst (v := 3) hx hb dX4_ahead_24 (by decide) ?_
        exact oc_iret hx hb hr hlocks va_S.rf dX4_ahead_25 (oc_Ri (by first | (simp [oc_ahd, oc_b, *]; done) | (exfalso; grind)))
      · -- not taken
        refine lv_iload_n hx hb dX4_ahead_18 rfl (lv_at hl 0 rfl) ?_
        refine lv_bipush (v := 83) hx hb dX4_ahead_19 (by decide) ?_
        refine lv_icmp_ne (tgt := 26) hx hb dX4_ahead_21 (by decide) (fun c21 => ?_) (fun c21 => ?_)
        · -- taken
          refine lv_iload_n hx hb dX4_ahead_26 rfl (lv_at hl 0 rfl) ?_
          refine lv_bipush (v := 86) hx hb dX4_ahead_27 (by decide) ?_
          refine lv_icmp_ne (tgt := 36) hx hb dX4_ahead_29 (by decide) (fun c29 => ?_) (fun c29 => ?_)
          · -- taken
            refine lv_iload_n hx hb dX4_ahead_36 rfl (lv_at hl 0 rfl) ?_
            refine lv_bipush (v := 80) hx hb dX4_ahead_37 (by decide) ?_
            refine lv_icmp_ne (tgt := 46) hx hb dX4_ahead_39 (by decide) (fun c39 => ?_) (fun c39 => ?_)
            · -- taken
              refine lv_iload_n hx hb dX4_ahead_46 rfl (lv_at hl 0 rfl) ?_
              refine lv_bipush (v := 40) hx hb dX4_ahead_47 (by decide) ?_
              refine lv_icmp_ne (tgt := 62) hx hb dX4_ahead_49 (by decide) (fun c49 => ?_) (fun c49 => ?_)
              · -- taken
                refine lv_iconst (v := (-1)) hx hb dX4_ahead_62 (by decide) ?_
                exact oc_iret hx hb hr hlocks va_S.rf dX4_ahead_63 (oc_Ri (by first | (simp [oc_ahd, oc_b, *]; done) | (exfalso; grind)))
              · -- not taken
                refine lv_iload_n hx hb dX4_ahead_52 rfl (lv_at hl 1 rfl) ?_
                refine lv_bipush (v := 8) hx hb dX4_ahead_53 (by decide) ?_
                refine lv_icmp_ge (tgt := 62) hx hb dX4_ahead_55 (by decide) (fun c55 => ?_) (fun c55 => ?_)
                · -- taken
                  refine lv_iconst (v := (-1)) hx hb dX4_ahead_62 (by decide) ?_
                  exact oc_iret hx hb hr hlocks va_S.rf dX4_ahead_63 (oc_Ri (by first | (simp [oc_ahd, oc_b, *]; done) | (exfalso; grind)))
                · -- not taken
                  refine lv_iconst (v := 2) hx hb dX4_ahead_58 (by decide) ?_
                  refine lv_goto (tgt := 63) hx hb dX4_ahead_59 (by decide) ?_
                  exact oc_iret hx hb hr hlocks va_S.rf dX4_ahead_63 (oc_Ri (by first | (simp [oc_ahd, oc_b, *]; done) | (exfalso; grind)))
            · -- not taken
              refine lv_iconst (v := 5) hx hb dX4_ahead_42 (by decide) ?_
              refine lv_goto (tgt := 63) hx hb dX4_ahead_43 (by decide) ?_
              exact oc_iret hx hb hr hlocks va_S.rf dX4_ahead_63 (oc_Ri (by first | (simp [oc_ahd, oc_b, *]; done) | (exfalso; grind)))
          · -- not taken
            refine lv_iconst (v := 4) hx hb dX4_ahead_32 (by decide) ?_
            refine lv_goto (tgt := 63) hx hb dX4_ahead_33 (by decide) ?_
            exact oc_iret hx hb hr hlocks va_S.rf dX4_ahead_63 (oc_Ri (by first | (simp [oc_ahd, oc_b, *]; done) | (exfalso; grind)))
        · -- not taken
          refine lv_iconst (v := 3) hx hb dX4_ahead_24 (by decide) ?_
          exact oc_iret hx hb hr hlocks va_S.rf dX4_ahead_25 (oc_Ri (by first | (simp [oc_ahd, oc_b, *]; done) | (exfalso; grind)))
set_option maxHeartbeats 4000000 in
set_option maxRecDepth 100000 in
theorem kX4_isDay {l : Launch} {s0 : State} {b0 : Addr} {D : va_G} {d : Nat → ClassId} (G : oc_G l s0 b0 D d) {H : Heap} (x : Int32) : oc_C l s0 yX4_isDay (oc_rm 1 17 0 0) [.int x] H oc_N (oc_R (some (.int (oc_b (oc_in x.toInt64 0 100000)))) H) := by
  refine oc_start G (cc := cX4_isDay) (L := 1) (ret := (Option.some Jvm.ClassFile.FieldType.boolean)) q1009 (Nat.le_of_ble_eq_true rfl) ?_
  intro p e s m below meth c ls hx hok hb hml hr hlocks htab hown hts hK hmn hh hl
  subst hh
  have hl : lv_has ls 1 [(0, .int x)] := hl
  have hZ := oc_Z0 hok
  refine lv_iload_n hx hb dX4_isDay_0 rfl (lv_at hl 0 rfl) ?_
  refine lv_i2l (v := x.toInt64) hx hb dX4_isDay_1 rfl ?_
  refine lv_lconst (v := 0) hx hb dX4_isDay_2 (by decide) ?_
  refine lv_ldc2 (v := 100000) hx hb hown (hts _ q1010) dX4_isDay_3 ?_
  refine oc_callR1 hx hb hml hl.1 hZ (oc_iS (As := [.long x.toInt64, .long 0, .long 100000]) (rest := []) hx hb hown (hts _ q900) (hts _ q901) (hts _ q30) (hts _ q902) ⟨by decide, by decide, (by decide +kernel : (parseMethodDescriptor "(JJJ)Z").map (fun d => d.parameters.length) = some 3)⟩ dX4_isDay_6 rfl) (oc_M.of (by decide +kernel) (hts _ q902)) (kX4_in G x.toInt64 0 100000) dX4_isDay_6 (Nat.le_of_ble_eq_true rfl) (Nat.le_of_ble_eq_true rfl) (Nat.le_of_ble_eq_true rfl) (Nat.le_of_ble_eq_true rfl) ?_
  exact oc_zret hx hb hr hlocks va_S.rf dX4_isDay_9 (oc_bn _) (oc_Ri (rfl))
set_option maxHeartbeats 4000000 in
set_option maxRecDepth 100000 in
theorem kX4_thrown {l : Launch} {s0 : State} {b0 : Addr} {D : va_G} {d : Nat → ClassId} (G : oc_G l s0 b0 D d) {h : Nat → Nat} {I : Nat → Int32} {F : Nat → Nat → Int32} {L : Nat → Int64} {H : Heap} (hP : va_P D oc_cl (oc_mW d h I F L) H)  : oc_C l s0 yX4_thrown (oc_rm 0 0 0 0) [.ref (h 0)] H oc_N (oc_R (some (.int (I 0))) H) := by
  refine oc_start G (cc := cX4_thrown) (L := 1) (ret := (Option.some Jvm.ClassFile.FieldType.int)) q893 (Nat.le_of_ble_eq_true rfl) ?_
  intro p e s m below meth c ls hx hok hb hml hr hlocks htab hown hts hK hmn hh hl
  subst hh
  have hl : lv_has ls 1 [(0, .ref (h 0))] := hl
  have hZ := oc_Z0 hok
  refine lv_aload_n hx hb dX4_thrown_0 rfl (lv_at hl 0 rfl) ?_
  refine va_get (D := D) (ci := 3) (v := .int (I 0)) (C := RX4) (T := TX4) (N := 27) hx hb hts in_X4 hown hK hP 0 rfl rfl 0 (by decide) (hts _ q807) (fun _ h9 => h9) rfl dX4_thrown_1 ?_
  exact oc_iret hx hb hr hlocks va_S.rf dX4_thrown_4 (oc_Ri (rfl))
