/-! ===== OriginRulesModel: lands, parts, numbers ===== -/
/-- one round over the pairs of lands, as far as k -/
def oc_mi (J : Nat → Int32) (w : Int32) : Nat → Int32 → Int32
  | 0, x => x
  | k + 1, x => oc_mi J w k x ||| (if ¬ J k = 0 ∧ (w >>> (nI (k / 10) &&& 31)) &&& 1 = 1 then 1 <<< (nI (k % 10) &&& 31) else 0)
/-- the lands that are known behind r rounds -/
def oc_mo (J : Nat → Int32) : Nat → Int32
  | 0 => 1
  | r + 1 => oc_mi J (oc_mo J r) 100 (oc_mo J r)
def oc_mr (f : Int32) : Nat := if f = 0 then 1 else 10
/-- is the land own -/
def oc_mw (I : Nat → Int32) (F : Nat → Nat → Int32) (x : Int32) : Bool := decide ((oc_mo (F 13) (oc_mr (I 15)) >>> (x &&& 31)) &&& 1 = 1)
theorem oc_mr_le (f : Int32) : oc_mr f ≤ 10 := by unfold oc_mr; split <;> omega
set_option maxHeartbeats 4000000 in
set_option maxRecDepth 100000 in
theorem kX4_isOwn {l : Launch} {s0 : State} {b0 : Addr} {D : va_G} {d : Nat → ClassId} (G : oc_G l s0 b0 D d) {h : Nat → Nat} {I : Nat → Int32} {F : Nat → Nat → Int32} {L : Nat → Int64} {H : Heap} (hP : va_P D oc_cl (oc_mW d h I F L) H) (a : Int32) : oc_C l s0 yX4_isOwn (oc_rm 0 0 0 0) [.ref (h 0), .int a] H oc_N (oc_R (some (.int (oc_b (oc_mw I F a)))) H) := by
  refine oc_start G (cc := cX4_isOwn) (L := 6) (ret := (Option.some Jvm.ClassFile.FieldType.boolean)) q960 (Nat.le_of_ble_eq_true rfl) ?_
  intro p e s m below meth c ls hx hok hb hml hr hlocks htab hown hts hK hmn hh hl
  subst hh
  have hl : lv_has ls 6 [(0, .ref (h 0)), (1, .int a)] := hl
  have hZ := oc_Z0 hok
  have hrb := oc_mr_le (I 15)
  refine lv_iconst (v := 1) hx hb dX4_isOwn_0 (by decide) ?_
  refine lv_istore_n (lv' := [(2, .int 1), (0, .ref (h 0)), (1, .int a)]) hx hb dX4_isOwn_1 rfl hl (by decide) rfl (fun ls hl => ?_)
  refine lv_iconst (v := 0) hx hb dX4_isOwn_2 (by decide) ?_
  refine lv_istore_n (lv' := [(3, .int 0), (2, .int 1), (0, .ref (h 0)), (1, .int a)]) hx hb dX4_isOwn_3 rfl hl (by decide) rfl (fun ls hl => ?_)
  have lp4 : ∀ (n : Nat) (r : Nat) (y : Int32), r ≤ oc_mr (I 15) → oc_mr (I 15) + 1 ≤ r + n → y = oc_mo (F 13) r → ∀ (ls : Array Slot), lv_has ls 6 [(3, .int (nI r)), (2, .int y), (0, .ref (h 0)), (1, .int a)] → W p l e (oc_rm 0 0 0 0) s m ([.ref (h 0), .int a] : List Value).toArray below meth c s.heap [] 0 0 (oc_Q oc_N below s (oc_R (some (.int (oc_b (oc_mw I F a)))) s.heap)) (F0 m 4 ls []) := by
    intro n
    induction n with
    | zero => intro r y hr2 hn2 ey ls hl; exact absurd hn2 (by omega)
    | succ n ih4 =>
      intro r y hr2 hn2 ey ls hl
      subst ey
      refine lv_iload_n hx hb dX4_isOwn_4 rfl (lv_at hl 0 rfl) ?_
      refine oc_cut (g2 := F0 m 18 ls [.int (nI (oc_mr (I 15))), .int (nI r)]) ?_ (fun K18 => ?_)
      · -- behind 18
        refine lv_icmp_ge (tgt := 84) hx hb dX4_isOwn_18 (by decide) (fun c18 => ?_) (fun c18 => ?_)
        · -- taken
          rw [oc_le (x := nI (oc_mr (I 15))) (y := nI r) (a := (oc_mr (I 15))) (b := r) rfl rfl (by omega) (by omega)] at c18
          have hrr : r = oc_mr (I 15) := by omega
          subst hrr
          refine lv_iload_n hx hb dX4_isOwn_84 rfl (lv_at hl 1 rfl) ?_
          refine lv_iload_n hx hb dX4_isOwn_85 rfl (lv_at hl 3 rfl) ?_
          refine lv_ishr hx hb dX4_isOwn_86 ?_
          refine lv_iconst (v := 1) hx hb dX4_isOwn_87 (by decide) ?_
          refine lv_iand hx hb dX4_isOwn_88 ?_
          refine lv_iconst (v := 1) hx hb dX4_isOwn_89 (by decide) ?_
          refine lv_icmp_ne (tgt := 97) hx hb dX4_isOwn_90 (by decide) (fun c90 => ?_) (fun c90 => ?_)
          · -- taken
            refine lv_iconst (v := 0) hx hb dX4_isOwn_97 (by decide) ?_
            exact oc_zret hx hb hr hlocks va_S.rf dX4_isOwn_98 rfl (oc_Ri (by simp [oc_mw, oc_b, *]))
          · -- not taken
            refine lv_iconst (v := 1) hx hb dX4_isOwn_93 (by decide) ?_
            refine lv_goto (tgt := 98) hx hb dX4_isOwn_94 (by decide) ?_
            exact oc_zret hx hb hr hlocks va_S.rf dX4_isOwn_98 rfl (oc_Ri (by simp [oc_mw, oc_b, *]))
        · -- not taken
          rw [oc_le (x := nI (oc_mr (I 15))) (y := nI r) (a := (oc_mr (I 15))) (b := r) rfl rfl (by omega) (by omega)] at c18
          refine lv_iload_n hx hb dX4_isOwn_21 rfl (lv_at hl 1 rfl) ?_
          refine lv_istore (lv' := [(4, .int (oc_mo (F 13) r)), (3, .int (nI r)), (2, .int (oc_mo (F 13) r)), (0, .ref (h 0)), (1, .int a)]) hx hb dX4_isOwn_22 hl (by decide) rfl (fun ls hl => ?_)
          refine lv_iconst (v := 0) hx hb dX4_isOwn_24 (by decide) ?_
          refine lv_istore (lv' := [(5, .int 0), (4, .int (oc_mo (F 13) r)), (3, .int (nI r)), (2, .int (oc_mo (F 13) r)), (0, .ref (h 0)), (1, .int a)]) hx hb dX4_isOwn_25 hl (by decide) rfl (fun ls hl => ?_)
          have lp27 : ∀ (n : Nat) (k : Nat) (x : Int32), k ≤ 100 → 101 ≤ k + n → x = oc_mi (F 13) (oc_mo (F 13) r) k (oc_mo (F 13) r) → ∀ (ls : Array Slot), lv_has ls 6 [(5, .int (nI k)), (2, .int x), (4, .int (oc_mo (F 13) r)), (3, .int (nI r)), (0, .ref (h 0)), (1, .int a)] → W p l e (oc_rm 0 0 0 0) s m ([.ref (h 0), .int a] : List Value).toArray below meth c s.heap [] 0 0 (oc_Q oc_N below s (oc_R (some (.int (oc_b (oc_mw I F a)))) s.heap)) (F0 m 27 ls []) := by
            intro n
            induction n with
            | zero => intro k x hk hn ex ls hl; exact absurd hn (by omega)
            | succ n ih27 =>
              intro k x hk hn ex ls hl
              refine lv_iload hx hb dX4_isOwn_27 (lv_at hl 0 rfl) ?_
              refine lv_bipush (v := 100) hx hb dX4_isOwn_29 (by decide) ?_
              refine lv_icmp_ge (tgt := 78) hx hb dX4_isOwn_31 (by decide) (fun c31 => ?_) (fun c31 => ?_)
              · -- taken
                rw [oc_le (x := 100) (y := nI k) (a := 100) (b := k) rfl rfl (by omega) (by omega)] at c31
                refine lv_iinc (v := nI (r + 1)) (lv' := [(3, .int (nI (r + 1))), (5, .int (nI k)), (2, .int x), (4, .int (oc_mo (F 13) r)), (0, .ref (h 0)), (1, .int a)]) hx hb dX4_isOwn_78 hl (k := 3) rfl (nI_1 r) (by decide) rfl (fun ls hl => ?_)
                refine lv_goto (tgt := 4) hx hb dX4_isOwn_81 (by decide) ?_
                exact ih4 (r + 1) x (by omega) (by omega) (by rw [ex, show k = 100 by omega]; rfl) ls (lv_sub hl [0, 2, 4, 5] rfl)
              · -- not taken
                rw [oc_le (x := 100) (y := nI k) (a := 100) (b := k) rfl rfl (by omega) (by omega)] at c31
                refine lv_iload_n hx hb dX4_isOwn_34 rfl (lv_at hl 1 rfl) ?_
                refine oc_cut (g2 := F0 m 70 ls [.int (if ¬ F 13 k = 0 ∧ (oc_mo (F 13) r >>> (nI (k / 10) &&& 31)) &&& 1 = 1 then 1 <<< (nI (k % 10) &&& 31) else 0), .int x]) ?_ (fun K70 => ?_)
                · -- behind 70
                  refine lv_ior hx hb dX4_isOwn_70 ?_
                  refine lv_istore_n (lv' := [(2, .int (x ||| (if ¬ F 13 k = 0 ∧ (oc_mo (F 13) r >>> (nI (k / 10) &&& 31)) &&& 1 = 1 then 1 <<< (nI (k % 10) &&& 31) else 0))), (5, .int (nI k)), (4, .int (oc_mo (F 13) r)), (3, .int (nI r)), (0, .ref (h 0)), (1, .int a)]) hx hb dX4_isOwn_71 rfl hl (by decide) rfl (fun ls hl => ?_)
                  refine lv_iinc (v := nI (k + 1)) (lv' := [(5, .int (nI (k + 1))), (2, .int (x ||| (if ¬ F 13 k = 0 ∧ (oc_mo (F 13) r >>> (nI (k / 10) &&& 31)) &&& 1 = 1 then 1 <<< (nI (k % 10) &&& 31) else 0))), (4, .int (oc_mo (F 13) r)), (3, .int (nI r)), (0, .ref (h 0)), (1, .int a)]) hx hb dX4_isOwn_72 hl (k := 1) rfl (nI_1 k) (by decide) rfl (fun ls hl => ?_)
                  refine lv_goto (tgt := 27) hx hb dX4_isOwn_75 (by decide) ?_
                  exact ih27 (k + 1) (x ||| (if ¬ F 13 k = 0 ∧ (oc_mo (F 13) r >>> (nI (k / 10) &&& 31)) &&& 1 = 1 then 1 <<< (nI (k % 10) &&& 31) else 0)) (by omega) (by omega) (by rw [ex]; rfl) ls (lv_sub hl [0, 1, 2, 3, 4, 5] rfl)
                · -- up to 70
                  refine lv_aload_n hx hb dX4_isOwn_35 rfl (lv_at hl 4 rfl) ?_
                  refine va_get (D := D) (ci := 3) (v := .ref (h 13)) (C := RX4) (T := TX4) (N := 27) hx hb hts in_X4 hown hK hP 0 rfl rfl 13 (by decide) (hts _ q820) (fun _ h9 => h9) rfl dX4_isOwn_36 ?_
                  refine lv_iload hx hb dX4_isOwn_39 (lv_at hl 0 rfl) ?_
                  refine oc_zald hx hb hK hP 8 1 rfl rfl k rfl (by omega) (by decide) dX4_isOwn_41 ?_
                  refine lv_if_eq (tgt := 69) hx hb dX4_isOwn_42 (by decide) (fun c42 => ?_) (fun c42 => ?_)
                  · -- taken
                    refine lv_iconst (v := 0) hx hb dX4_isOwn_69 (by decide) ?_
                    exact oc_topi (by simp [*]) K70
                  · -- not taken
                    refine lv_iload hx hb dX4_isOwn_45 (lv_at hl 2 rfl) ?_
                    refine lv_iload hx hb dX4_isOwn_47 (lv_at hl 0 rfl) ?_
                    refine lv_bipush (v := 10) hx hb dX4_isOwn_49 (by decide) ?_
                    refine lv_idiv hx hb dX4_isOwn_51 (by decide) ?_
                    refine oc_topi (x := (nI k) / 10) (y := nI (k / 10)) (pk_div (d := 10) (by omega) (by omega) (by omega)) ?_
                    refine lv_ishr hx hb dX4_isOwn_52 ?_
                    refine lv_iconst (v := 1) hx hb dX4_isOwn_53 (by decide) ?_
                    refine lv_iand hx hb dX4_isOwn_54 ?_
                    refine lv_iconst (v := 1) hx hb dX4_isOwn_55 (by decide) ?_
                    refine lv_icmp_ne (tgt := 69) hx hb dX4_isOwn_56 (by decide) (fun c56 => ?_) (fun c56 => ?_)
                    · -- taken
                      refine lv_iconst (v := 0) hx hb dX4_isOwn_69 (by decide) ?_
                      exact oc_topi (by simp [*]) K70
                    · -- not taken
                      refine lv_iconst (v := 1) hx hb dX4_isOwn_59 (by decide) ?_
                      refine lv_iload hx hb dX4_isOwn_60 (lv_at hl 0 rfl) ?_
                      refine lv_bipush (v := 10) hx hb dX4_isOwn_62 (by decide) ?_
                      refine lv_irem hx hb dX4_isOwn_64 (by decide) ?_
                      refine oc_topi (x := (nI k) - (nI k) / 10 * 10) (y := nI (k % 10)) (pk_rem (d := 10) (by omega) (by omega) (by omega)) ?_
                      refine lv_ishl hx hb dX4_isOwn_65 ?_
                      refine lv_goto (tgt := 70) hx hb dX4_isOwn_66 (by decide) ?_
                      exact oc_topi (by simp [*]) K70
          exact lp27 101 0 (oc_mo (F 13) r) (by omega) (by omega) rfl ls (lv_sub hl [0, 3, 1, 2, 4, 5] rfl)
      · -- up to 18
        refine lv_aload_n hx hb dX4_isOwn_5 rfl (lv_at hl 2 rfl) ?_
        refine va_get (D := D) (ci := 3) (v := .int (I 15)) (C := RX4) (T := TX4) (N := 27) hx hb hts in_X4 hown hK hP 0 rfl rfl 15 (by decide) (hts _ q822) (fun _ h9 => h9) rfl dX4_isOwn_6 ?_
        refine lv_if_eq (tgt := 17) hx hb dX4_isOwn_9 (by decide) (fun c9 => ?_) (fun c9 => ?_)
        · -- taken
          refine lv_iconst (v := 1) hx hb dX4_isOwn_17 (by decide) ?_
          exact oc_topi (by simp [oc_mr, *]; try rfl) K18
        · -- not taken
          refine lv_bipush (v := 10) hx hb dX4_isOwn_12 (by decide) ?_
          refine lv_goto (tgt := 18) hx hb dX4_isOwn_14 (by decide) ?_
          exact oc_topi (by simp [oc_mr, *]; try rfl) K18
  exact lp4 (oc_mr (I 15) + 1) 0 1 (by omega) (by omega) rfl ls (lv_sub hl [0, 1, 2, 3] rfl)
/-- what foreign parts cost, as far as k -/
def oc_mf (I : Nat → Int32) (F : Nat → Nat → Int32) (L : Nat → Int64) : Nat → Int64
  | 0 => 0
  | k + 1 => oc_mf I F L k + (if oc_mw I F (F 9 k) = true then 0 else L k)
/-- a foreign part with the same first digits -/
theorem oc_mf_I {I I2 : Nat → Int32} {F : Nat → Nat → Int32} {L : Nat → Int64} (h : I2 15 = I 15) {N : Nat} : oc_mf I2 F L N = oc_mf I F L N := by
  induction N with
  | zero => rfl
  | succ k ih =>
    have e : oc_mw I2 F (F 9 k) = oc_mw I F (F 9 k) := by unfold oc_mw; rw [h]
    show oc_mf I2 F L k + _ = oc_mf I F L k + _
    rw [ih, e]
/-- a foreign part with the same first digits -/
def oc_ms (I : Nat → Int32) (F : Nat → Nat → Int32) (x z : Int32) (k : Nat) : Bool := !oc_mw I F (F 9 k) && decide (F 8 k / z = x / z)
def oc_mt (I : Nat → Int32) (F : Nat → Nat → Int32) (L : Nat → Int64) (x z : Int32) : Nat → Int64
  | 0 => 0
  | k + 1 => oc_mt I F L x z k + (if oc_ms I F x z k = true then L k else 0)
def oc_me (I : Nat → Int32) (F : Nat → Nat → Int32) (x z : Int32) : Nat → Bool
  | 0 => false
  | k + 1 => oc_me I F x z k || oc_ms I F x z k
def oc_mx (I : Nat → Int32) (F : Nat → Nat → Int32) (L : Nat → Int64) (N : Nat) (x : Int32) (y : Int64) (z : Int32) : Bool := !oc_me I F x z N || !decide (y * (I 16).toInt64 < oc_mt I F L x z N * (I 17).toInt64)
/-- the number that j signs from a on make -/
def oc_nm (f : Nat → Int32) (a : Nat) : Nat → Int32
  | 0 => 0
  | j + 1 => 10 * oc_nm f a j + f (a + j) - 48
def oc_mh (I : Nat → Int32) (F : Nat → Nat → Int32) (L : Nat → Int64) (N pl e : Nat) (x : Int32) (y : Int64) : Bool :=
  if F 3 pl = 67 then oc_mx I F L N x y 10000 else if F 3 pl = 72 then oc_mx I F L N x y 100 else if F 3 pl = 83 then oc_mx I F L N x y 1
  else if F 3 pl = 86 then !decide (y ≤ 0) && !decide ((oc_nm (F 3) (pl + 1) (e - (pl + 1))).toInt64 * y < 100 * oc_mf I F L N)
  else if F 3 pl = 87 then decide (I 7 = 0) else decide ((I 11 >>> (oc_nm (F 3) (pl + 1) (e - (pl + 1)) &&& 31)) &&& 1 = 1)
set_option maxHeartbeats 4000000 in
set_option maxRecDepth 100000 in
theorem kX4_foreign {l : Launch} {s0 : State} {b0 : Addr} {D : va_G} {d : Nat → ClassId} (G : oc_G l s0 b0 D d) {h : Nat → Nat} {I : Nat → Int32} {F : Nat → Nat → Int32} {L : Nat → Int64} {H : Heap} (hP : va_P D oc_cl (oc_mW d h I F L) H) (N : Nat) (hN : I 7 = nI N) (h12 : N ≤ 12) : oc_C l s0 yX4_foreign (oc_rm 1 19 0 0) [.ref (h 0)] H oc_N (oc_R (some (.long (oc_mf I F L N))) H) := by
  refine oc_start G (cc := cX4_foreign) (L := 4) (ret := (Option.some Jvm.ClassFile.FieldType.long)) q990 (Nat.le_of_ble_eq_true rfl) ?_
  intro p e s m below meth c ls hx hok hb hml hr hlocks htab hown hts hK hmn hh hl
  subst hh
  have hl : lv_has ls 4 [(0, .ref (h 0))] := hl
  have hZ := oc_Z0 hok
  refine lv_lconst (v := 0) hx hb dX4_foreign_0 (by decide) ?_
  refine lv_lstore_n (lv' := [(1, .long 0), (0, .ref (h 0))]) hx hb dX4_foreign_1 rfl hl (by decide) rfl (fun ls hl => ?_)
  refine lv_iconst (v := 0) hx hb dX4_foreign_2 (by decide) ?_
  refine lv_istore_n (lv' := [(3, .int 0), (1, .long 0), (0, .ref (h 0))]) hx hb dX4_foreign_3 rfl hl (by decide) rfl (fun ls hl => ?_)
  have lp4 : ∀ (n : Nat) (k : Nat) (x : Int64), k ≤ N → N + 1 ≤ k + n → x = oc_mf I F L k → ∀ (ls : Array Slot), lv_has ls 4 [(3, .int (nI k)), (1, .long x), (0, .ref (h 0))] → W p l e (oc_rm 1 19 0 0) s m ([.ref (h 0)] : List Value).toArray below meth c s.heap [] 0 0 (oc_Q oc_N below s (oc_R (some (.long (oc_mf I F L N))) s.heap)) (F0 m 4 ls []) := by
    intro n
    induction n with
    | zero => intro k x hk hn ex ls hl; exact absurd hn (by omega)
    | succ n ih4 =>
      intro k x hk hn ex ls hl
      refine lv_iload_n hx hb dX4_foreign_4 rfl (lv_at hl 0 rfl) ?_
      refine lv_aload_n hx hb dX4_foreign_5 rfl (lv_at hl 2 rfl) ?_
      refine va_get (D := D) (ci := 3) (v := .int (I 7)) (C := RX4) (T := TX4) (N := 27) hx hb hts in_X4 hown hK hP 0 rfl rfl 7 (by decide) (hts _ q814) (fun _ h9 => h9) rfl dX4_foreign_6 ?_
      refine oc_topi (x := I 7) (y := nI N) hN ?_
      refine lv_icmp_ge (tgt := 44) hx hb dX4_foreign_9 (by decide) (fun c9 => ?_) (fun c9 => ?_)
      · -- taken
        rw [oc_le (x := nI N) (y := nI k) (a := N) (b := k) rfl rfl (by omega) (by omega)] at c9
        refine lv_lload_n hx hb dX4_foreign_44 rfl (lv_at hl 1 rfl) ?_
        exact oc_lret hx hb hr hlocks va_S.rf dX4_foreign_45 (oc_Rl (by rw [ex, show k = N by omega]))
      · -- not taken
        rw [oc_le (x := nI N) (y := nI k) (a := N) (b := k) rfl rfl (by omega) (by omega)] at c9
        refine lv_lload_n hx hb dX4_foreign_12 rfl (lv_at hl 1 rfl) ?_
        refine oc_cut (g2 := F0 m 36 ls [.long (if oc_mw I F (F 9 k) = true then 0 else L k), .long x]) ?_ (fun K36 => ?_)
        · -- behind 36
          refine lv_ladd hx hb dX4_foreign_36 ?_
          refine lv_lstore_n (lv' := [(1, .long (x + (if oc_mw I F (F 9 k) = true then 0 else L k))), (3, .int (nI k)), (0, .ref (h 0))]) hx hb dX4_foreign_37 rfl hl (by decide) rfl (fun ls hl => ?_)
          refine lv_iinc (v := nI (k + 1)) (lv' := [(3, .int (nI (k + 1))), (1, .long (x + (if oc_mw I F (F 9 k) = true then 0 else L k))), (0, .ref (h 0))]) hx hb dX4_foreign_38 hl (k := 1) rfl (nI_1 k) (by decide) rfl (fun ls hl => ?_)
          refine lv_goto (tgt := 4) hx hb dX4_foreign_41 (by decide) ?_
          exact ih4 (k + 1) (x + (if oc_mw I F (F 9 k) = true then 0 else L k)) (by omega) (by omega) (by rw [ex]; rfl) ls (lv_sub hl [0, 1, 2] rfl)
        · -- up to 36
          refine lv_aload_n hx hb dX4_foreign_13 rfl (lv_at hl 2 rfl) ?_
          refine lv_aload_n hx hb dX4_foreign_14 rfl (lv_at hl 2 rfl) ?_
          refine va_get (D := D) (ci := 3) (v := .ref (h 9)) (C := RX4) (T := TX4) (N := 27) hx hb hts in_X4 hown hK hP 0 rfl rfl 9 (by decide) (hts _ q816) (fun _ h9 => h9) rfl dX4_foreign_15 ?_
          refine lv_iload_n hx hb dX4_foreign_18 rfl (lv_at hl 0 rfl) ?_
          refine oc_iald hx hb hK hP 6 0 rfl rfl k rfl (by omega) (by decide) dX4_foreign_19 ?_
          refine oc_callR1 hx hb hml hl.1 hZ (oc_iV (As := [.int ((F 9) k)]) (rest := [.long x]) hx hb hown (hts _ q957) (hts _ q959) (hts _ qs15) (oc_Sig.of (hts _ q960) (by decide +kernel : (parseMethodDescriptor "(I)Z").map (fun d => d.parameters.length) = some 1)) (va_recv hK hP (ci := 3) (q0 := 0) rfl rfl) ⟨by decide, by decide⟩ dX4_foreign_20 rfl) (oc_M.of (by decide +kernel) (hts _ q960)) (kX4_isOwn G hP ((F 9) k)) dX4_foreign_20 (Nat.le_of_ble_eq_true rfl) (Nat.le_of_ble_eq_true rfl) (Nat.le_of_ble_eq_true rfl) (Nat.le_of_ble_eq_true rfl) ?_
          refine lv_if_eq (tgt := 30) hx hb dX4_foreign_23 (by decide) (fun c23 => ?_) (fun c23 => ?_)
          · -- taken
            rw [oc_b0] at c23
            refine lv_aload_n hx hb dX4_foreign_30 rfl (lv_at hl 2 rfl) ?_
            refine va_get (D := D) (ci := 3) (v := .ref (h 10)) (C := RX4) (T := TX4) (N := 27) hx hb hts in_X4 hown hK hP 0 rfl rfl 10 (by decide) (hts _ q817) (fun _ h9 => h9) rfl dX4_foreign_31 ?_
            refine lv_iload_n hx hb dX4_foreign_34 rfl (lv_at hl 0 rfl) ?_
            refine oc_lald hx hb hK hP 7 3 rfl rfl k rfl (by omega) (by decide) dX4_foreign_35 ?_
            exact oc_topl (by simp [*]) K36
          · -- not taken
            rw [oc_b0] at c23
            rw [Bool.not_eq_false] at c23
            refine lv_lconst (v := 0) hx hb dX4_foreign_26 (by decide) ?_
            refine lv_goto (tgt := 36) hx hb dX4_foreign_27 (by decide) ?_
            exact oc_topl (by simp [*]) K36
  exact lp4 (N + 1) 0 0 (by omega) (by omega) rfl ls (lv_sub hl [0, 1, 2] rfl)
set_option maxHeartbeats 4000000 in
set_option maxRecDepth 100000 in
theorem kX4_isOther {l : Launch} {s0 : State} {b0 : Addr} {D : va_G} {d : Nat → ClassId} (G : oc_G l s0 b0 D d) {h : Nat → Nat} {I : Nat → Int32} {F : Nat → Nat → Int32} {L : Nat → Int64} {H : Heap} (hP : va_P D oc_cl (oc_mW d h I F L) H) (a : Int32) (y : Int64) (z : Int32) (hz : ¬ z = 0) (N : Nat) (hN : I 7 = nI N) (h12 : N ≤ 12) : oc_C l s0 yX4_isOther (oc_rm 1 17 0 0) [.ref (h 0), .int a, .long y, .int z] H oc_N (oc_R (some (.int (oc_b (oc_mx I F L N a y z)))) H) := by
  refine oc_start G (cc := cX4_isOther) (L := 10) (ret := (Option.some Jvm.ClassFile.FieldType.boolean)) q985 (Nat.le_of_ble_eq_true rfl) ?_
  intro p e s m below meth c ls hx hok hb hml hr hlocks htab hown hts hK hmn hh hl
  subst hh
  have hl : lv_has ls 10 [(0, .ref (h 0)), (1, .int a), (2, .long y), (4, .int z)] := hl
  have hZ := oc_Z0 hok
  refine lv_lconst (v := 0) hx hb dX4_isOther_0 (by decide) ?_
  refine lv_lstore (lv' := [(5, .long 0), (0, .ref (h 0)), (1, .int a), (2, .long y), (4, .int z)]) hx hb dX4_isOther_1 hl (by decide) rfl (fun ls hl => ?_)
  refine lv_iconst (v := 0) hx hb dX4_isOther_3 (by decide) ?_
  refine lv_istore (lv' := [(7, .int 0), (5, .long 0), (0, .ref (h 0)), (1, .int a), (2, .long y), (4, .int z)]) hx hb dX4_isOther_4 hl (by decide) rfl (fun ls hl => ?_)
  refine lv_iconst (v := 0) hx hb dX4_isOther_6 (by decide) ?_
  refine lv_istore (lv' := [(8, .int 0), (7, .int 0), (5, .long 0), (0, .ref (h 0)), (1, .int a), (2, .long y), (4, .int z)]) hx hb dX4_isOther_7 hl (by decide) rfl (fun ls hl => ?_)
  have lp9 : ∀ (n : Nat) (k : Nat) (x : Int64) (o : Int32), k ≤ N → N + 1 ≤ k + n → x = oc_mt I F L a z k → o = oc_b (oc_me I F a z k) → ∀ (ls : Array Slot), lv_has ls 10 [(8, .int (nI k)), (7, .int o), (5, .long x), (0, .ref (h 0)), (1, .int a), (2, .long y), (4, .int z)] → W p l e (oc_rm 1 17 0 0) s m ([.ref (h 0), .int a, .long y, .int z] : List Value).toArray below meth c s.heap [] 0 0 (oc_Q oc_N below s (oc_R (some (.int (oc_b (oc_mx I F L N a y z)))) s.heap)) (F0 m 9 ls []) := by
    intro n
    induction n with
    | zero => intro k x o hk hn ex eo ls hl; exact absurd hn (by omega)
    | succ n ih9 =>
      intro k x o hk hn ex eo ls hl
      subst eo
      refine lv_iload hx hb dX4_isOther_9 (lv_at hl 0 rfl) ?_
      refine lv_aload_n hx hb dX4_isOther_11 rfl (lv_at hl 3 rfl) ?_
      refine va_get (D := D) (ci := 3) (v := .int (I 7)) (C := RX4) (T := TX4) (N := 27) hx hb hts in_X4 hown hK hP 0 rfl rfl 7 (by decide) (hts _ q814) (fun _ h9 => h9) rfl dX4_isOther_12 ?_
      refine oc_topi (x := I 7) (y := nI N) hN ?_
      refine lv_icmp_ge (tgt := 100) hx hb dX4_isOther_15 (by decide) (fun c15 => ?_) (fun c15 => ?_)
      · -- taken
        rw [oc_le (x := nI N) (y := nI k) (a := N) (b := k) rfl rfl (by omega) (by omega)] at c15
        have hkN : k = N := by omega
        subst hkN
        subst ex
        refine lv_iload hx hb dX4_isOther_100 (lv_at hl 1 rfl) ?_
        refine lv_if_eq (tgt := 124) hx hb dX4_isOther_102 (by decide) (fun c102 => ?_) (fun c102 => ?_)
        · -- taken
          rw [oc_b0] at c102
          refine lv_iconst (v := 1) hx hb dX4_isOther_124 (by decide) ?_
          refine lv_goto (tgt := 129) hx hb dX4_isOther_125 (by decide) ?_
          exact oc_zret hx hb hr hlocks va_S.rf dX4_isOther_129 rfl (oc_Ri (by simp [oc_mx, oc_b, *]))
        · -- not taken
          rw [oc_b0] at c102
          rw [Bool.not_eq_false] at c102
          refine lv_lload hx hb dX4_isOther_105 (lv_at hl 2 rfl) ?_
          refine lv_aload_n hx hb dX4_isOther_107 rfl (lv_at hl 3 rfl) ?_
          refine va_get (D := D) (ci := 3) (v := .int (I 17)) (C := RX4) (T := TX4) (N := 27) hx hb hts in_X4 hown hK hP 0 rfl rfl 17 (by decide) (hts _ q824) (fun _ h9 => h9) rfl dX4_isOther_108 ?_
          refine lv_i2l (v := (I 17).toInt64) hx hb dX4_isOther_111 rfl ?_
          refine lv_lmul hx hb dX4_isOther_112 ?_
          refine lv_lload_n hx hb dX4_isOther_113 rfl (lv_at hl 5 rfl) ?_
          refine lv_aload_n hx hb dX4_isOther_114 rfl (lv_at hl 3 rfl) ?_
          refine va_get (D := D) (ci := 3) (v := .int (I 16)) (C := RX4) (T := TX4) (N := 27) hx hb hts in_X4 hown hK hP 0 rfl rfl 16 (by decide) (hts _ q823) (fun _ h9 => h9) rfl dX4_isOther_115 ?_
          refine lv_i2l (v := (I 16).toInt64) hx hb dX4_isOther_118 rfl ?_
          refine lv_lmul hx hb dX4_isOther_119 ?_
          refine W.lcmp hx hb dX4_isOther_120 ?_
          refine lv_if_gt (tgt := 128) hx hb dX4_isOther_121 (by decide) (fun c121 => ?_) (fun c121 => ?_)
          · -- taken
            rw [lg_cmp_gt] at c121
            refine lv_iconst (v := 0) hx hb dX4_isOther_128 (by decide) ?_
            exact oc_zret hx hb hr hlocks va_S.rf dX4_isOther_129 rfl (oc_Ri (by simp [oc_mx, oc_b, *]))
          · -- not taken
            rw [lg_cmp_gt] at c121
            refine lv_iconst (v := 1) hx hb dX4_isOther_124 (by decide) ?_
            refine lv_goto (tgt := 129) hx hb dX4_isOther_125 (by decide) ?_
            exact oc_zret hx hb hr hlocks va_S.rf dX4_isOther_129 rfl (oc_Ri (by simp [oc_mx, oc_b, *]))
      · -- not taken
        rw [oc_le (x := nI N) (y := nI k) (a := N) (b := k) rfl rfl (by omega) (by omega)] at c15
        refine oc_cut (g2 := F0 m 54 ls [.int (oc_b (oc_ms I F a z k))]) ?_ (fun K54 => ?_)
        · -- behind 54
          refine lv_istore (lv' := [(9, .int (oc_b (oc_ms I F a z k))), (8, .int (nI k)), (7, .int (oc_b (oc_me I F a z k))), (5, .long x), (0, .ref (h 0)), (1, .int a), (2, .long y), (4, .int z)]) hx hb dX4_isOther_54 hl (by decide) rfl (fun ls hl => ?_)
          refine lv_lload hx hb dX4_isOther_56 (lv_at hl 3 rfl) ?_
          refine oc_cut (g2 := F0 m 74 ls [.long (if oc_ms I F a z k = true then L k else 0), .long x]) ?_ (fun K74 => ?_)
          · -- behind 74
            refine lv_ladd hx hb dX4_isOther_74 ?_
            refine lv_lstore (lv' := [(5, .long (x + (if oc_ms I F a z k = true then L k else 0))), (9, .int (oc_b (oc_ms I F a z k))), (8, .int (nI k)), (7, .int (oc_b (oc_me I F a z k))), (0, .ref (h 0)), (1, .int a), (2, .long y), (4, .int z)]) hx hb dX4_isOther_75 hl (by decide) rfl (fun ls hl => ?_)
            refine oc_cut (g2 := F0 m 92 ls [.int (oc_b (oc_me I F a z (k + 1)))]) ?_ (fun K92 => ?_)
            · -- behind 92
              refine lv_istore (lv' := [(7, .int (oc_b (oc_me I F a z (k + 1)))), (5, .long (x + (if oc_ms I F a z k = true then L k else 0))), (9, .int (oc_b (oc_ms I F a z k))), (8, .int (nI k)), (0, .ref (h 0)), (1, .int a), (2, .long y), (4, .int z)]) hx hb dX4_isOther_92 hl (by decide) rfl (fun ls hl => ?_)
              refine lv_iinc (v := nI (k + 1)) (lv' := [(8, .int (nI (k + 1))), (7, .int (oc_b (oc_me I F a z (k + 1)))), (5, .long (x + (if oc_ms I F a z k = true then L k else 0))), (9, .int (oc_b (oc_ms I F a z k))), (0, .ref (h 0)), (1, .int a), (2, .long y), (4, .int z)]) hx hb dX4_isOther_94 hl (k := 3) rfl (nI_1 k) (by decide) rfl (fun ls hl => ?_)
              refine lv_goto (tgt := 9) hx hb dX4_isOther_97 (by decide) ?_
              exact ih9 (k + 1) (x + (if oc_ms I F a z k = true then L k else 0)) (oc_b (oc_me I F a z (k + 1))) (by omega) (by omega) (by rw [ex]; rfl) rfl ls (lv_sub hl [0, 1, 2, 4, 5, 6, 7] rfl)
            · -- up to 92
              refine lv_iload hx hb dX4_isOther_77 (lv_at hl 3 rfl) ?_
              refine lv_if_ne (tgt := 87) hx hb dX4_isOther_79 (by decide) (fun c79 => ?_) (fun c79 => ?_)
              · -- taken
                rw [oc_b0] at c79
                rw [Bool.not_eq_false] at c79
                refine lv_iconst (v := 1) hx hb dX4_isOther_87 (by decide) ?_
                refine lv_goto (tgt := 92) hx hb dX4_isOther_88 (by decide) ?_
                exact oc_topi (by simp [oc_me, oc_b, *]) K92
              · -- not taken
                rw [oc_b0] at c79
                refine lv_iload hx hb dX4_isOther_82 (lv_at hl 1 rfl) ?_
                refine lv_if_eq (tgt := 91) hx hb dX4_isOther_84 (by decide) (fun c84 => ?_) (fun c84 => ?_)
                · -- taken
                  rw [oc_b0] at c84
                  refine lv_iconst (v := 0) hx hb dX4_isOther_91 (by decide) ?_
                  exact oc_topi (by simp [oc_me, oc_b, *]) K92
                · -- not taken
                  rw [oc_b0] at c84
                  rw [Bool.not_eq_false] at c84
                  refine lv_iconst (v := 1) hx hb dX4_isOther_87 (by decide) ?_
                  refine lv_goto (tgt := 92) hx hb dX4_isOther_88 (by decide) ?_
                  exact oc_topi (by simp [oc_me, oc_b, *]) K92
          · -- up to 74
            refine lv_iload hx hb dX4_isOther_58 (lv_at hl 0 rfl) ?_
            refine lv_if_eq (tgt := 73) hx hb dX4_isOther_60 (by decide) (fun c60 => ?_) (fun c60 => ?_)
            · -- taken
              rw [oc_b0] at c60
              refine lv_lconst (v := 0) hx hb dX4_isOther_73 (by decide) ?_
              exact oc_topl (by simp [*]) K74
            · -- not taken
              rw [oc_b0] at c60
              rw [Bool.not_eq_false] at c60
              refine lv_aload_n hx hb dX4_isOther_63 rfl (lv_at hl 4 rfl) ?_
              refine va_get (D := D) (ci := 3) (v := .ref (h 10)) (C := RX4) (T := TX4) (N := 27) hx hb hts in_X4 hown hK hP 0 rfl rfl 10 (by decide) (hts _ q817) (fun _ h9 => h9) rfl dX4_isOther_64 ?_
              refine lv_iload hx hb dX4_isOther_67 (lv_at hl 1 rfl) ?_
              refine oc_lald hx hb hK hP 7 3 rfl rfl k rfl (by omega) (by decide) dX4_isOther_69 ?_
              refine lv_goto (tgt := 74) hx hb dX4_isOther_70 (by decide) ?_
              exact oc_topl (by simp [*]) K74
        · -- up to 54
          refine lv_aload_n hx hb dX4_isOther_18 rfl (lv_at hl 3 rfl) ?_
          refine lv_aload_n hx hb dX4_isOther_19 rfl (lv_at hl 3 rfl) ?_
          refine va_get (D := D) (ci := 3) (v := .ref (h 9)) (C := RX4) (T := TX4) (N := 27) hx hb hts in_X4 hown hK hP 0 rfl rfl 9 (by decide) (hts _ q816) (fun _ h9 => h9) rfl dX4_isOther_20 ?_
          refine lv_iload hx hb dX4_isOther_23 (lv_at hl 0 rfl) ?_
          refine oc_iald hx hb hK hP 6 0 rfl rfl k rfl (by omega) (by decide) dX4_isOther_25 ?_
          refine oc_callR1 hx hb hml hl.1 hZ (oc_iV (As := [.int ((F 9) k)]) (rest := []) hx hb hown (hts _ q957) (hts _ q959) (hts _ qs15) (oc_Sig.of (hts _ q960) (by decide +kernel : (parseMethodDescriptor "(I)Z").map (fun d => d.parameters.length) = some 1)) (va_recv hK hP (ci := 3) (q0 := 0) rfl rfl) ⟨by decide, by decide⟩ dX4_isOther_26 rfl) (oc_M.of (by decide +kernel) (hts _ q960)) (kX4_isOwn G hP ((F 9) k)) dX4_isOther_26 (Nat.le_of_ble_eq_true rfl) (Nat.le_of_ble_eq_true rfl) (Nat.le_of_ble_eq_true rfl) (Nat.le_of_ble_eq_true rfl) ?_
          refine lv_if_ne (tgt := 53) hx hb dX4_isOther_29 (by decide) (fun c29 => ?_) (fun c29 => ?_)
          · -- taken
            rw [oc_b0] at c29
            rw [Bool.not_eq_false] at c29
            refine lv_iconst (v := 0) hx hb dX4_isOther_53 (by decide) ?_
            exact oc_topi (by simp [oc_ms, oc_b, *]) K54
          · -- not taken
            rw [oc_b0] at c29
            refine lv_aload_n hx hb dX4_isOther_32 rfl (lv_at hl 3 rfl) ?_
            refine va_get (D := D) (ci := 3) (v := .ref (h 8)) (C := RX4) (T := TX4) (N := 27) hx hb hts in_X4 hown hK hP 0 rfl rfl 8 (by decide) (hts _ q815) (fun _ h9 => h9) rfl dX4_isOther_33 ?_
            refine lv_iload hx hb dX4_isOther_36 (lv_at hl 0 rfl) ?_
            refine oc_iald hx hb hK hP 5 0 rfl rfl k rfl (by omega) (by decide) dX4_isOther_38 ?_
            refine lv_iload hx hb dX4_isOther_39 (lv_at hl 6 rfl) ?_
            refine lv_idiv hx hb dX4_isOther_41 hz ?_
            refine lv_iload_n hx hb dX4_isOther_42 rfl (lv_at hl 4 rfl) ?_
            refine lv_iload hx hb dX4_isOther_43 (lv_at hl 6 rfl) ?_
            refine lv_idiv hx hb dX4_isOther_45 hz ?_
            refine lv_icmp_ne (tgt := 53) hx hb dX4_isOther_46 (by decide) (fun c46 => ?_) (fun c46 => ?_)
            · -- taken
              refine lv_iconst (v := 0) hx hb dX4_isOther_53 (by decide) ?_
              exact oc_topi (by simp [oc_ms, oc_b, *]) K54
            · -- not taken
              refine lv_iconst (v := 1) hx hb dX4_isOther_49 (by decide) ?_
              refine lv_goto (tgt := 54) hx hb dX4_isOther_50 (by decide) ?_
              exact oc_topi (by simp [oc_ms, oc_b, *]) K54
  exact lp9 (N + 1) 0 0 0 (by omega) (by omega) rfl rfl ls (lv_sub hl [0, 1, 2, 3, 4, 5, 6] rfl)
set_option maxHeartbeats 4000000 in
set_option maxRecDepth 100000 in
theorem kX4_numberAt {l : Launch} {s0 : State} {b0 : Addr} {D : va_G} {d : Nat → ClassId} (G : oc_G l s0 b0 D d) {h : Nat → Nat} {I : Nat → Int32} {F : Nat → Nat → Int32} {L : Nat → Int64} {H : Heap} (hP : va_P D oc_cl (oc_mW d h I F L) H) (pl ze : Nat) (he : pl < ze) (h300 : ze < 300) (hd1 : ∀ i, pl < i → i < ze → oc_dig (F 3 i) = true) (hd2 : oc_dig (F 3 ze) = false) : oc_C l s0 yX4_numberAt (oc_rm 1 12 0 0) [.ref (h 0), .int (nI pl)] H oc_N (oc_R (some (.int (oc_nm (F 3) (pl + 1) (ze - (pl + 1))))) H) := by
  refine oc_start G (cc := cX4_numberAt) (L := 4) (ret := (Option.some Jvm.ClassFile.FieldType.int)) q994 (Nat.le_of_ble_eq_true rfl) ?_
  intro p e s m below meth c ls hx hok hb hml hr hlocks htab hown hts hK hmn hh hl
  subst hh
  have hl : lv_has ls 4 [(0, .ref (h 0)), (1, .int (nI pl))] := hl
  have hZ := oc_Z0 hok
  refine lv_iconst (v := 0) hx hb dX4_numberAt_0 (by decide) ?_
  refine lv_istore_n (lv' := [(2, .int 0), (0, .ref (h 0)), (1, .int (nI pl))]) hx hb dX4_numberAt_1 rfl hl (by decide) rfl (fun ls hl => ?_)
  refine lv_iload_n hx hb dX4_numberAt_2 rfl (lv_at hl 2 rfl) ?_
  refine lv_iconst (v := 1) hx hb dX4_numberAt_3 (by decide) ?_
  refine lv_iadd hx hb dX4_numberAt_4 ?_
  refine oc_topi (x := (nI pl) + 1) (y := nI (pl + 1 + 0)) (nI_1 pl) ?_
  refine lv_istore_n (lv' := [(3, .int (nI (pl + 1 + 0))), (2, .int 0), (0, .ref (h 0)), (1, .int (nI pl))]) hx hb dX4_numberAt_5 rfl hl (by decide) rfl (fun ls hl => ?_)
  have lp6 : ∀ (n : Nat) (j : Nat) (x : Int32), pl + 1 + j ≤ ze → ze + 1 ≤ pl + 1 + j + n → x = oc_nm (F 3) (pl + 1) j → ∀ (ls : Array Slot), lv_has ls 4 [(3, .int (nI (pl + 1 + j))), (2, .int x), (0, .ref (h 0)), (1, .int (nI pl))] → W p l e (oc_rm 1 12 0 0) s m ([.ref (h 0), .int (nI pl)] : List Value).toArray below meth c s.heap [] 0 0 (oc_Q oc_N below s (oc_R (some (.int (oc_nm (F 3) (pl + 1) (ze - (pl + 1))))) s.heap)) (F0 m 6 ls []) := by
    intro n
    induction n with
    | zero => intro j x hj hn ex ls hl; exact absurd hn (by omega)
    | succ n ih6 =>
      intro j x hj hn ex ls hl
      refine lv_aload_n hx hb dX4_numberAt_6 rfl (lv_at hl 2 rfl) ?_
      refine va_get (D := D) (ci := 3) (v := .ref (h 3)) (C := RX4) (T := TX4) (N := 27) hx hb hts in_X4 hown hK hP 0 rfl rfl 3 (by decide) (hts _ q810) (fun _ h9 => h9) rfl dX4_numberAt_7 ?_
      refine lv_iload_n hx hb dX4_numberAt_10 rfl (lv_at hl 0 rfl) ?_
      refine oc_iald hx hb hK hP 2 0 rfl rfl (pl + 1 + j) rfl (by omega) (by decide) dX4_numberAt_11 ?_
      refine oc_callR1 hx hb hml hl.1 hZ (oc_iS (As := [.int ((F 3) (pl + 1 + j))]) (rest := []) hx hb hown (hts _ q907) (hts _ q908) (hts _ q30) (hts _ q909) ⟨by decide, by decide, (by decide +kernel : (parseMethodDescriptor "(I)Z").map (fun d => d.parameters.length) = some 1)⟩ dX4_numberAt_12 rfl) (oc_M.of (by decide +kernel) (hts _ q909)) (kX4_isDigit G ((F 3) (pl + 1 + j))) dX4_numberAt_12 (Nat.le_of_ble_eq_true rfl) (Nat.le_of_ble_eq_true rfl) (Nat.le_of_ble_eq_true rfl) (Nat.le_of_ble_eq_true rfl) ?_
      refine lv_if_eq (tgt := 39) hx hb dX4_numberAt_15 (by decide) (fun c15 => ?_) (fun c15 => ?_)
      · -- taken
        rw [oc_b0] at c15
        have hje : pl + 1 + j = ze := by
          rcases Nat.lt_or_ge (pl + 1 + j) ze with z | z
          · rw [hd1 _ (by omega) z] at c15; cases c15
          · omega
        refine lv_iload_n hx hb dX4_numberAt_39 rfl (lv_at hl 1 rfl) ?_
        exact oc_iret hx hb hr hlocks va_S.rf dX4_numberAt_40 (oc_Ri (by rw [ex, show j = ze - (pl + 1) by omega]))
      · -- not taken
        rw [oc_b0] at c15
        rw [Bool.not_eq_false] at c15
        have hje : pl + 1 + j < ze := by
          rcases Nat.lt_or_ge (pl + 1 + j) ze with z | z
          · exact z
          · rw [show pl + 1 + j = ze by omega, hd2] at c15; cases c15
        refine lv_bipush (v := 10) hx hb dX4_numberAt_18 (by decide) ?_
        refine lv_iload_n hx hb dX4_numberAt_20 rfl (lv_at hl 1 rfl) ?_
        refine lv_imul hx hb dX4_numberAt_21 ?_
        refine lv_aload_n hx hb dX4_numberAt_22 rfl (lv_at hl 2 rfl) ?_
        refine va_get (D := D) (ci := 3) (v := .ref (h 3)) (C := RX4) (T := TX4) (N := 27) hx hb hts in_X4 hown hK hP 0 rfl rfl 3 (by decide) (hts _ q810) (fun _ h9 => h9) rfl dX4_numberAt_23 ?_
        refine lv_iload_n hx hb dX4_numberAt_26 rfl (lv_at hl 0 rfl) ?_
        refine oc_iald hx hb hK hP 2 0 rfl rfl (pl + 1 + j) rfl (by omega) (by decide) dX4_numberAt_27 ?_
        refine lv_iadd hx hb dX4_numberAt_28 ?_
        refine lv_bipush (v := 48) hx hb dX4_numberAt_29 (by decide) ?_
        refine lv_isub hx hb dX4_numberAt_31 ?_
        refine lv_istore_n (lv' := [(2, .int (((10 * x) + ((F 3) (pl + 1 + j))) - 48)), (3, .int (nI (pl + 1 + j))), (0, .ref (h 0)), (1, .int (nI pl))]) hx hb dX4_numberAt_32 rfl hl (by decide) rfl (fun ls hl => ?_)
        refine lv_iinc (v := nI (pl + 1 + (j + 1))) (lv' := [(3, .int (nI (pl + 1 + (j + 1)))), (2, .int (((10 * x) + ((F 3) (pl + 1 + j))) - 48)), (0, .ref (h 0)), (1, .int (nI pl))]) hx hb dX4_numberAt_33 hl (k := 1) rfl (nI_1 (pl + 1 + j)) (by decide) rfl (fun ls hl => ?_)
        refine lv_goto (tgt := 6) hx hb dX4_numberAt_36 (by decide) ?_
        exact ih6 (j + 1) (((10 * x) + ((F 3) (pl + 1 + j))) - 48) (by omega) (by omega) (by rw [ex]; rfl) ls (lv_sub hl [0, 1, 2, 3] rfl)
  exact lp6 (ze + 1) 0 0 (by omega) (by omega) rfl ls (lv_sub hl [0, 1, 2, 3] rfl)
set_option maxHeartbeats 4000000 in
set_option maxRecDepth 100000 in
theorem kX4_holds {l : Launch} {s0 : State} {b0 : Addr} {D : va_G} {d : Nat → ClassId} (G : oc_G l s0 b0 D d) {h : Nat → Nat} {I : Nat → Int32} {F : Nat → Nat → Int32} {L : Nat → Int64} {H : Heap} (hP : va_P D oc_cl (oc_mW d h I F L) H) (a : Int32) (y : Int64) (N : Nat) (hN : I 7 = nI N) (h12 : N ≤ 12) (pl ze : Nat) (he : pl < ze) (h300 : ze < 300) (hd1 : ∀ i, pl < i → i < ze → oc_dig (F 3 i) = true) (hd2 : oc_dig (F 3 ze) = false) : oc_C l s0 yX4_holds (oc_rm 2 38 0 0) [.ref (h 0), .int (nI pl), .int a, .long y] H oc_N (oc_R (some (.int (oc_b (oc_mh I F L N pl ze a y)))) H) := by
  refine oc_start G (cc := cX4_holds) (L := 5) (ret := (Option.some Jvm.ClassFile.FieldType.boolean)) q981 (Nat.le_of_ble_eq_true rfl) ?_
  intro p e s m below meth c ls hx hok hb hml hr hlocks htab hown hts hK hmn hh hl
  subst hh
  have hl : lv_has ls 5 [(0, .ref (h 0)), (1, .int (nI pl)), (2, .int a), (3, .long y)] := hl
  have hZ := oc_Z0 hok
  refine lv_aload_n hx hb dX4_holds_0 rfl (lv_at hl 0 rfl) ?_
  refine va_get (D := D) (ci := 3) (v := .ref (h 3)) (C := RX4) (T := TX4) (N := 27) hx hb hts in_X4 hown hK hP 0 rfl rfl 3 (by decide) (hts _ q810) (fun _ h9 => h9) rfl dX4_holds_1 ?_
  refine lv_iload_n hx hb dX4_holds_4 rfl (lv_at hl 1 rfl) ?_
  refine oc_iald hx hb hK hP 2 0 rfl rfl pl rfl (by omega) (by decide) dX4_holds_5 ?_
  by_cases w6_67 : (F 3) pl = 67
  · -- case 67
    refine lv_lookup (x := (F 3) pl) (off := 63) (tgt := 69) hx hb dX4_holds_6 (by decide) (by rw [w6_67]; rfl) (by decide) ?_
    refine lv_aload_n hx hb dX4_holds_69 rfl (lv_at hl 0 rfl) ?_
    refine lv_iload_n hx hb dX4_holds_70 rfl (lv_at hl 2 rfl) ?_
    refine lv_lload_n hx hb dX4_holds_71 rfl (lv_at hl 3 rfl) ?_
    refine lv_sipush (v := 10000) hx hb dX4_holds_72 (by decide) ?_
    refine oc_callR1 hx hb hml hl.1 hZ (oc_iV (As := [.int a, .long y, .int 10000]) (rest := []) hx hb hown (hts _ q982) (hts _ q984) (hts _ qs20) (oc_Sig.of (hts _ q985) (by decide +kernel : (parseMethodDescriptor "(IJI)Z").map (fun d => d.parameters.length) = some 3)) (va_recv hK hP (ci := 3) (q0 := 0) rfl rfl) ⟨by decide, by decide⟩ dX4_holds_75 rfl) (oc_M.of (by decide +kernel) (hts _ q985)) (kX4_isOther G hP a y 10000 (by decide) N hN h12) dX4_holds_75 (Nat.le_of_ble_eq_true rfl) (Nat.le_of_ble_eq_true rfl) (Nat.le_of_ble_eq_true rfl) (Nat.le_of_ble_eq_true rfl) ?_
    exact oc_zret hx hb hr hlocks va_S.rf dX4_holds_78 (oc_bn _) (oc_Ri (by clear hN; simp [oc_mh, oc_b, *]))
  by_cases w6_72 : (F 3) pl = 72
  · -- case 72
    refine lv_lookup (x := (F 3) pl) (off := 73) (tgt := 79) hx hb dX4_holds_6 (by decide) (by rw [w6_72]; rfl) (by decide) ?_
    refine lv_aload_n hx hb dX4_holds_79 rfl (lv_at hl 0 rfl) ?_
    refine lv_iload_n hx hb dX4_holds_80 rfl (lv_at hl 2 rfl) ?_
    refine lv_lload_n hx hb dX4_holds_81 rfl (lv_at hl 3 rfl) ?_
    refine lv_bipush (v := 100) hx hb dX4_holds_82 (by decide) ?_
    refine oc_callR1 hx hb hml hl.1 hZ (oc_iV (As := [.int a, .long y, .int 100]) (rest := []) hx hb hown (hts _ q982) (hts _ q984) (hts _ qs20) (oc_Sig.of (hts _ q985) (by decide +kernel : (parseMethodDescriptor "(IJI)Z").map (fun d => d.parameters.length) = some 3)) (va_recv hK hP (ci := 3) (q0 := 0) rfl rfl) ⟨by decide, by decide⟩ dX4_holds_84 rfl) (oc_M.of (by decide +kernel) (hts _ q985)) (kX4_isOther G hP a y 100 (by decide) N hN h12) dX4_holds_84 (Nat.le_of_ble_eq_true rfl) (Nat.le_of_ble_eq_true rfl) (Nat.le_of_ble_eq_true rfl) (Nat.le_of_ble_eq_true rfl) ?_
    exact oc_zret hx hb hr hlocks va_S.rf dX4_holds_87 (oc_bn _) (oc_Ri (by clear hN; simp [oc_mh, oc_b, *]))
  by_cases w6_83 : (F 3) pl = 83
  · -- case 83
    refine lv_lookup (x := (F 3) pl) (off := 82) (tgt := 88) hx hb dX4_holds_6 (by decide) (by rw [w6_83]; rfl) (by decide) ?_
    refine lv_aload_n hx hb dX4_holds_88 rfl (lv_at hl 0 rfl) ?_
    refine lv_iload_n hx hb dX4_holds_89 rfl (lv_at hl 2 rfl) ?_
    refine lv_lload_n hx hb dX4_holds_90 rfl (lv_at hl 3 rfl) ?_
    refine lv_iconst (v := 1) hx hb dX4_holds_91 (by decide) ?_
    refine oc_callR1 hx hb hml hl.1 hZ (oc_iV (As := [.int a, .long y, .int 1]) (rest := []) hx hb hown (hts _ q982) (hts _ q984) (hts _ qs20) (oc_Sig.of (hts _ q985) (by decide +kernel : (parseMethodDescriptor "(IJI)Z").map (fun d => d.parameters.length) = some 3)) (va_recv hK hP (ci := 3) (q0 := 0) rfl rfl) ⟨by decide, by decide⟩ dX4_holds_92 rfl) (oc_M.of (by decide +kernel) (hts _ q985)) (kX4_isOther G hP a y 1 (by decide) N hN h12) dX4_holds_92 (Nat.le_of_ble_eq_true rfl) (Nat.le_of_ble_eq_true rfl) (Nat.le_of_ble_eq_true rfl) (Nat.le_of_ble_eq_true rfl) ?_
    exact oc_zret hx hb hr hlocks va_S.rf dX4_holds_95 (oc_bn _) (oc_Ri (by clear hN; simp [oc_mh, oc_b, *]))
  by_cases w6_86 : (F 3) pl = 86
  · -- case 86
    refine lv_lookup (x := (F 3) pl) (off := 90) (tgt := 96) hx hb dX4_holds_6 (by decide) (by rw [w6_86]; rfl) (by decide) ?_
    refine lv_lload_n hx hb dX4_holds_96 rfl (lv_at hl 3 rfl) ?_
    refine lv_lconst (v := 0) hx hb dX4_holds_97 (by decide) ?_
    refine W.lcmp hx hb dX4_holds_98 ?_
    refine lv_if_le (tgt := 126) hx hb dX4_holds_99 (by decide) (fun c99 => ?_) (fun c99 => ?_)
    · -- taken
      rw [lg_cmp_le] at c99
      refine lv_iconst (v := 0) hx hb dX4_holds_126 (by decide) ?_
      exact oc_zret hx hb hr hlocks va_S.rf dX4_holds_127 rfl (oc_Ri (by clear hN; simp [oc_mh, oc_b, *]))
    · -- not taken
      rw [lg_cmp_le] at c99
      refine lv_ldc2 (v := 100) hx hb hown (hts _ q986) dX4_holds_102 ?_
      refine lv_aload_n hx hb dX4_holds_105 rfl (lv_at hl 0 rfl) ?_
      refine oc_callR1 hx hb hml hl.1 hZ (oc_iV (As := []) (rest := [.long 100]) hx hb hown (hts _ q987) (hts _ q989) (hts _ qs21) (oc_Sig.of (hts _ q990) (by decide +kernel : (parseMethodDescriptor "()J").map (fun d => d.parameters.length) = some 0)) (va_recv hK hP (ci := 3) (q0 := 0) rfl rfl) ⟨by decide, by decide⟩ dX4_holds_106 rfl) (oc_M.of (by decide +kernel) (hts _ q990)) (kX4_foreign G hP N hN h12) dX4_holds_106 (Nat.le_of_ble_eq_true rfl) (Nat.le_of_ble_eq_true rfl) (Nat.le_of_ble_eq_true rfl) (Nat.le_of_ble_eq_true rfl) ?_
      refine lv_lmul hx hb dX4_holds_109 ?_
      refine lv_aload_n hx hb dX4_holds_110 rfl (lv_at hl 0 rfl) ?_
      refine lv_iload_n hx hb dX4_holds_111 rfl (lv_at hl 1 rfl) ?_
      refine oc_callR1 hx hb hml hl.1 hZ (oc_iV (As := [.int (nI pl)]) (rest := [.long (100 * (oc_mf I F L N))]) hx hb hown (hts _ q991) (hts _ q993) (hts _ qs22) (oc_Sig.of (hts _ q994) (by decide +kernel : (parseMethodDescriptor "(I)I").map (fun d => d.parameters.length) = some 1)) (va_recv hK hP (ci := 3) (q0 := 0) rfl rfl) ⟨by decide, by decide⟩ dX4_holds_112 rfl) (oc_M.of (by decide +kernel) (hts _ q994)) (kX4_numberAt G hP pl ze he h300 hd1 hd2) dX4_holds_112 (Nat.le_of_ble_eq_true rfl) (Nat.le_of_ble_eq_true rfl) (Nat.le_of_ble_eq_true rfl) (Nat.le_of_ble_eq_true rfl) ?_
      refine lv_i2l (v := (oc_nm (F 3) (pl + 1) (ze - (pl + 1))).toInt64) hx hb dX4_holds_115 rfl ?_
      refine lv_lload_n hx hb dX4_holds_116 rfl (lv_at hl 3 rfl) ?_
      refine lv_lmul hx hb dX4_holds_117 ?_
      refine W.lcmp hx hb dX4_holds_118 ?_
      refine lv_if_gt (tgt := 126) hx hb dX4_holds_119 (by decide) (fun c119 => ?_) (fun c119 => ?_)
      · -- taken
        rw [lg_cmp_gt] at c119
        refine lv_iconst (v := 0) hx hb dX4_holds_126 (by decide) ?_
        exact oc_zret hx hb hr hlocks va_S.rf dX4_holds_127 rfl (oc_Ri (by clear hN; simp [oc_mh, oc_b, *]))
      · -- not taken
        rw [lg_cmp_gt] at c119
        refine lv_iconst (v := 1) hx hb dX4_holds_122 (by decide) ?_
        refine lv_goto (tgt := 127) hx hb dX4_holds_123 (by decide) ?_
        exact oc_zret hx hb hr hlocks va_S.rf dX4_holds_127 rfl (oc_Ri (by clear hN; simp [oc_mh, oc_b, *]))
  by_cases w6_87 : (F 3) pl = 87
  · -- case 87
    refine lv_lookup (x := (F 3) pl) (off := 50) (tgt := 56) hx hb dX4_holds_6 (by decide) (by rw [w6_87]; rfl) (by decide) ?_
    refine lv_aload_n hx hb dX4_holds_56 rfl (lv_at hl 0 rfl) ?_
    refine va_get (D := D) (ci := 3) (v := .int (I 7)) (C := RX4) (T := TX4) (N := 27) hx hb hts in_X4 hown hK hP 0 rfl rfl 7 (by decide) (hts _ q814) (fun _ h9 => h9) rfl dX4_holds_57 ?_
    refine lv_if_ne (tgt := 67) hx hb dX4_holds_60 (by decide) (fun c60 => ?_) (fun c60 => ?_)
    · -- taken
      refine lv_iconst (v := 0) hx hb dX4_holds_67 (by decide) ?_
      exact oc_zret hx hb hr hlocks va_S.rf dX4_holds_68 rfl (oc_Ri (by clear hN; simp [oc_mh, oc_b, *]))
    · -- not taken
      refine lv_iconst (v := 1) hx hb dX4_holds_63 (by decide) ?_
      refine lv_goto (tgt := 68) hx hb dX4_holds_64 (by decide) ?_
      exact oc_zret hx hb hr hlocks va_S.rf dX4_holds_68 rfl (oc_Ri (by clear hN; simp [oc_mh, oc_b, *]))
  refine lv_lookup (x := (F 3) pl) (off := 122) (tgt := 128) hx hb dX4_holds_6 (by decide) (by exact (lv_osw (k := 67) (a := 67) w6_67 rfl).trans ((lv_osw (k := 72) (a := 72) w6_72 rfl).trans ((lv_osw (k := 83) (a := 83) w6_83 rfl).trans ((lv_osw (k := 86) (a := 86) w6_86 rfl).trans ((lv_osw (k := 87) (a := 87) w6_87 rfl).trans (rfl)))))) (by decide) ?_
  refine lv_aload_n hx hb dX4_holds_128 rfl (lv_at hl 0 rfl) ?_
  refine va_get (D := D) (ci := 3) (v := .int (I 11)) (C := RX4) (T := TX4) (N := 27) hx hb hts in_X4 hown hK hP 0 rfl rfl 11 (by decide) (hts _ q818) (fun _ h9 => h9) rfl dX4_holds_129 ?_
  refine lv_aload_n hx hb dX4_holds_132 rfl (lv_at hl 0 rfl) ?_
  refine lv_iload_n hx hb dX4_holds_133 rfl (lv_at hl 1 rfl) ?_
  refine oc_callR1 hx hb hml hl.1 hZ (oc_iV (As := [.int (nI pl)]) (rest := [.int (I 11)]) hx hb hown (hts _ q991) (hts _ q993) (hts _ qs22) (oc_Sig.of (hts _ q994) (by decide +kernel : (parseMethodDescriptor "(I)I").map (fun d => d.parameters.length) = some 1)) (va_recv hK hP (ci := 3) (q0 := 0) rfl rfl) ⟨by decide, by decide⟩ dX4_holds_134 rfl) (oc_M.of (by decide +kernel) (hts _ q994)) (kX4_numberAt G hP pl ze he h300 hd1 hd2) dX4_holds_134 (Nat.le_of_ble_eq_true rfl) (Nat.le_of_ble_eq_true rfl) (Nat.le_of_ble_eq_true rfl) (Nat.le_of_ble_eq_true rfl) ?_
  refine lv_ishr hx hb dX4_holds_137 ?_
  refine lv_iconst (v := 1) hx hb dX4_holds_138 (by decide) ?_
  refine lv_iand hx hb dX4_holds_139 ?_
  refine lv_iconst (v := 1) hx hb dX4_holds_140 (by decide) ?_
  refine lv_icmp_ne (tgt := 148) hx hb dX4_holds_141 (by decide) (fun c141 => ?_) (fun c141 => ?_)
  · -- taken
    refine lv_iconst (v := 0) hx hb dX4_holds_148 (by decide) ?_
    exact oc_zret hx hb hr hlocks va_S.rf dX4_holds_149 rfl (oc_Ri (by clear hN; simp [oc_mh, oc_b, *]))
  · -- not taken
    refine lv_iconst (v := 1) hx hb dX4_holds_144 (by decide) ?_
    refine lv_goto (tgt := 149) hx hb dX4_holds_145 (by decide) ?_
    exact oc_zret hx hb hr hlocks va_S.rf dX4_holds_149 rfl (oc_Ri (by clear hN; simp [oc_mh, oc_b, *]))
