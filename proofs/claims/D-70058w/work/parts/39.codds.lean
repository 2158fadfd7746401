/-! THE COMPONENT, odds -/
set_option maxRecDepth 100000

theorem hd_ct_greatest : yX0_greatest.cls ≠ "java/lang/invoke/MethodHandle" ∧ yX0_greatest.cls ≠ "java/lang/invoke/VarHandle" ∧ (parseMethodDescriptor yX0_greatest.desc).map (fun d => d.parameters.length) = some 2 := by decide +kernel
theorem ct_greatest (l : Launch) (G : gG) (ws : va_W) : ∀ (n a b : Nat), b < n → a < 2 ^ 31 → n ≤ 1000 → gMl l yX0_greatest cX0_greatest 4 (some .long) ({ frames := n, cells := 0, slots := 0, locals := 23 * n } : Room) G [.long (lN a), .long (lN b)] ws (fun _ : Unit => ws) (fun ρ _ => lN (Nat.gcd b a) = ρ)
  | 0, a, b, hb, _, _ => absurd hb (Nat.not_lt_zero _)
  | n + 1, a, b, hb, ha, hn => by
    refine gMl_of (by decide) (Nat.le_of_ble_eq_true rfl) ?_
    intro p e s m below meth c ls A F I hl
    have hl : lv_has ls 4 [(0, .long (lN a)), (2, .long (lN b))] := hl
    refine lv_lload_n F.x F.b dX0_greatest_0 rfl (lv_at hl 1 rfl) ?_
    refine lv_lconst (v := 0) F.x F.b dX0_greatest_1 (by decide) ?_
    refine W.lcmp F.x F.b dX0_greatest_2 ?_
    refine lv_if_ne (x := (lg_cmp (lN (b)) (0))) (tgt := 10) F.x F.b dX0_greatest_3 (by decide) (fun c_3 => ?_) (fun c_3 => ?_)
    · have hb0 : 0 < b := Nat.pos_of_ne_zero (fun z => c_3 (lgc_eq.mpr (by rw [z]; rfl)))
      refine lv_lload_n F.x F.b dX0_greatest_10 rfl (lv_at hl 1 rfl) ?_
      refine lv_lload_n F.x F.b dX0_greatest_11 rfl (lv_at hl 0 rfl) ?_
      refine lv_lload_n F.x F.b dX0_greatest_12 rfl (lv_at hl 1 rfl) ?_
      refine L_lrem F dX0_greatest_13 (by omega) (by omega) (by omega) ?_
      refine g_calll I (g_runS (n := 2) (As := [.long (lN (b)), .long (lN ((a % b)))]) (rest := []) F I (ct_greatest l G _ n (b) ((a % b)) (Nat.lt_of_lt_of_le (Nat.mod_lt _ (by omega)) (by omega)) (by omega) (by omega) _) q576 q577 q52 q578 hd_ct_greatest ⟨by show n + 1 ≤ n + 1; omega, by show 8 + (4 + 11) + 23 * n ≤ 23 * (n + 1); omega⟩ rfl rfl hl.1 rfl (lv_room (Nat.le_of_ble_eq_true rfl)) dX0_greatest_14 ⟨by first | exact Nat.le_refl _ | decide, by first | exact Nat.le_refl _ | decide⟩) (fun r u_ H locs hp I => ?_)
      obtain rfl := hp
      exact g_lret (u := ()) F I (by first | rw [show b = 0 from (lN_eq (by omega) (show 0 < 2 ^ 31 by decide)).mp (lgc_eq.mp c_3), Nat.gcd_zero_left] | rw [← Nat.gcd_rec]) dX0_greatest_17 (by first | exact Nat.le_refl _ | decide) (by first | exact Nat.le_refl _ | decide)
    · refine lv_lload_n F.x F.b dX0_greatest_6 rfl (lv_at hl 0 rfl) ?_
      refine lv_goto (tgt := 17) F.x F.b dX0_greatest_7 (by decide) ?_
      exact g_lret (u := ()) F I (by first | rw [show b = 0 from (lN_eq (by omega) (show 0 < 2 ^ 31 by decide)).mp (lgc_eq.mp c_3), Nat.gcd_zero_left] | rw [← Nat.gcd_rec]) dX0_greatest_17 (by first | exact Nat.le_refl _ | decide) (by first | exact Nat.le_refl _ | decide)
theorem hd_ct_odds : yX0_odds.cls ≠ "java/lang/invoke/MethodHandle" ∧ yX0_odds.cls ≠ "java/lang/invoke/VarHandle" ∧ (parseMethodDescriptor yX0_odds.desc).map (fun d => d.parameters.length) = some 4 := by decide +kernel
set_option maxHeartbeats 4000000 in
theorem ct_odds (l : Launch) (G : gG) (o : Nat) (q : Nat → Nat) (S : MS) (Y : va_W)  (x : Int32) (v : Int32) (y : Int32) (z : Int32) (L : LD) (hL : LOk L) (hS : cLs S L) (hYp : cYp G o q Y L 99) : gMl l yX0_odds cX0_odds 9 (some .long) ({ frames := 258, cells := 0, slots := 0, locals := 5934 } : Room) G [.ref o, .int (x), .int (v), .int (y), .int (z)] (cW G o q S Y) (fun S' => cW G o q S' Y) (fun ρ S' => aOdds L x v y z = ρ ∧ cKeep S S') := by
  refine gMl_of (by decide) (Nat.le_of_ble_eq_true rfl) ?_
  intro p e s m below meth c ls A F I hl
  have hl : lv_has ls 9 [(0, .ref (o)), (1, .int (x)), (2, .int (v)), (3, .int (y)), (4, .int (z))] := hl
  have hL5 := hL.1
  have hS0 := hS
  obtain ⟨el, hYl, hYr⟩ := id hYp
  refine lv_iload_n F.x F.b dX0_odds_0 rfl (lv_at hl 1 rfl) ?_
  refine lv_i2l (v := (x).toInt64) F.x F.b dX0_odds_1 rfl ?_
  refine lv_lconst (v := 1) F.x F.b dX0_odds_2 (by decide) ?_
  refine lv_ldc2 (v := 2) F.x F.b F.o (F.t _ q272) dX0_odds_3 ?_
  refine g_calli I (g_runS (n := 3) (As := [.long ((x).toInt64), .long (1), .long ((2))]) (rest := []) F I (ct_in l G _ ((x).toInt64) (1) ((2))   _) q186 q187 q52 q188 hd_ct_in ⟨Nat.le_of_ble_eq_true rfl, Nat.le_of_ble_eq_true rfl⟩ rfl rfl hl.1 rfl (lv_room (Nat.le_of_ble_eq_true rfl)) dX0_odds_6 ⟨by first | exact Nat.le_refl _ | decide, by first | exact Nat.le_refl _ | decide⟩) (fun r u_ H locs hp I => ?_)
  obtain rfl := hp
  refine W.val (y := bI (mWi x 1 2)) (by exact congrArg bI (inL_wi x 1 2)) ?_
  refine z_eq (tgt := 44) F dX0_odds_9 (by decide) (fun c_9 => ?_) (fun c_9 => ?_)
  · refine lv_ldc2 (v := -9223372036854775808) F.x F.b F.o (F.t _ q575) dX0_odds_44 ?_
    exact g_lret (u := S) F I (by exact ⟨by simp_all [aOdds], cKeep.rf⟩) dX0_odds_47 (by first | exact Nat.le_refl _ | decide) (by first | exact Nat.le_refl _ | decide)
  · obtain ⟨k, hk, rfl⟩ := wi_12 c_9
    have tk : (nI k).toNatClampNeg = k := nI_clamp (by omega)
    refine lv_iload_n F.x F.b dX0_odds_12 rfl (lv_at hl 2 rfl) ?_
    refine g_calli I (g_runS (n := 1) (As := [.int (v)]) (rest := []) F I (ct_isDay l G _ (v)   _) q247 q248 q52 q249 hd_ct_isDay ⟨Nat.le_of_ble_eq_true rfl, Nat.le_of_ble_eq_true rfl⟩ rfl rfl hl.1 rfl (lv_room (Nat.le_of_ble_eq_true rfl)) dX0_odds_13 ⟨by first | exact Nat.le_refl _ | decide, by first | exact Nat.le_refl _ | decide⟩) (fun r u_ H locs hp I => ?_)
    obtain rfl := hp
    refine z_eq (tgt := 44) F dX0_odds_16 (by decide) (fun c_16 => ?_) (fun c_16 => ?_)
    · refine lv_ldc2 (v := -9223372036854775808) F.x F.b F.o (F.t _ q575) dX0_odds_44 ?_
      exact g_lret (u := S) F I (by exact ⟨by simp_all [aOdds], cKeep.rf⟩) dX0_odds_47 (by first | exact Nat.le_refl _ | decide) (by first | exact Nat.le_refl _ | decide)
    · obtain ⟨j, hj, rfl⟩ := wi_n (m := 7) (by decide) c_16
      have tj : (nI j).toNatClampNeg = j := nI_clamp (by omega)
      refine lv_iload_n F.x F.b dX0_odds_19 rfl (lv_at hl 3 rfl) ?_
      refine g_calli I (g_runS (n := 1) (As := [.int (y)]) (rest := []) F I (ct_isDay l G _ (y)   _) q247 q248 q52 q249 hd_ct_isDay ⟨Nat.le_of_ble_eq_true rfl, Nat.le_of_ble_eq_true rfl⟩ rfl rfl hl.1 rfl (lv_room (Nat.le_of_ble_eq_true rfl)) dX0_odds_20 ⟨by first | exact Nat.le_refl _ | decide, by first | exact Nat.le_refl _ | decide⟩) (fun r u_ H locs hp I => ?_)
      obtain rfl := hp
      refine z_eq (tgt := 44) F dX0_odds_23 (by decide) (fun c_23 => ?_) (fun c_23 => ?_)
      · refine lv_ldc2 (v := -9223372036854775808) F.x F.b F.o (F.t _ q575) dX0_odds_44 ?_
        exact g_lret (u := S) F I (by exact ⟨by simp_all [aOdds], cKeep.rf⟩) dX0_odds_47 (by first | exact Nat.le_refl _ | decide) (by first | exact Nat.le_refl _ | decide)
      · obtain ⟨i, hi, rfl⟩ := wi_n (m := 7) (by decide) c_23
        have ti : (nI i).toNatClampNeg = i := nI_clamp (by omega)
        refine lv_iload F.x F.b dX0_odds_26 (lv_at hl 4 rfl) ?_
        refine lv_i2l (v := (z).toInt64) F.x F.b dX0_odds_28 rfl ?_
        refine lv_lconst (v := 0) F.x F.b dX0_odds_29 (by decide) ?_
        refine lv_lconst (v := 1) F.x F.b dX0_odds_30 (by decide) ?_
        refine g_calli I (g_runS (n := 3) (As := [.long ((z).toInt64), .long (0), .long (1)]) (rest := []) F I (ct_in l G _ ((z).toInt64) (0) (1)   _) q186 q187 q52 q188 hd_ct_in ⟨Nat.le_of_ble_eq_true rfl, Nat.le_of_ble_eq_true rfl⟩ rfl rfl hl.1 rfl (lv_room (Nat.le_of_ble_eq_true rfl)) dX0_odds_31 ⟨by first | exact Nat.le_refl _ | decide, by first | exact Nat.le_refl _ | decide⟩) (fun r u_ H locs hp I => ?_)
        obtain rfl := hp
        refine W.val (y := bI (mWi z 0 1)) (by exact congrArg bI (inL_wi z 0 1)) ?_
        refine z_eq (tgt := 44) F dX0_odds_34 (by decide) (fun c_34 => ?_) (fun c_34 => ?_)
        · refine lv_ldc2 (v := -9223372036854775808) F.x F.b F.o (F.t _ q575) dX0_odds_44 ?_
          exact g_lret (u := S) F I (by exact ⟨by simp_all [aOdds], cKeep.rf⟩) dX0_odds_47 (by first | exact Nat.le_refl _ | decide) (by first | exact Nat.le_refl _ | decide)
        · refine lv_aload_n F.x F.b dX0_odds_37 rfl (lv_at hl 0 rfl) ?_
          refine g_calli I (g_runV (n := 0) (ci := 1) (q0 := 0) (As := []) (rest := []) F I (ct_noLand l G o q (S) Y  L 99 (by exact hL) (by exact hS) (by exact hYp) _) q252 q254 qs1 q52 q255 ⟨rfl, hd_ct_noLand⟩ ⟨Nat.le_of_ble_eq_true rfl, Nat.le_of_ble_eq_true rfl⟩ rfl rfl rfl rfl hl.1 rfl (lv_room (Nat.le_of_ble_eq_true rfl)) dX0_odds_38 ⟨by first | exact Nat.le_refl _ | decide, by first | exact Nat.le_refl _ | decide⟩) (fun r u_ H locs hp I => ?_)
          obtain ⟨rfl, rfl⟩ := hp
          refine z_eq (tgt := 48) F dX0_odds_41 (by decide) (fun c_41 => ?_) (fun c_41 => ?_)
          · refine lv_aload_n F.x F.b dX0_odds_48 rfl (lv_at hl 0 rfl) ?_
            refine c_getr F I 2 (by decide) q126 dX0_odds_49 ?_
            refine lv_iload_n F.x F.b dX0_odds_52 rfl (lv_at hl 1 rfl) ?_
            refine c_ld (v := ((S.2 2) (k))) F I 2 (by decide) (show k < 3 by omega) rfl dX0_odds_53 ?_
            refine W.val (y := nI (L 7 k)) (by exact hS.2 k (by omega)) ?_
            refine lv_istore (lv' := [(5, .int (nI (L 7 k))), (0, .ref (o)), (1, .int (nI (k))), (2, .int (nI (j))), (3, .int (nI (i))), (4, .int (z))]) F.x F.b dX0_odds_54 hl (by decide) rfl (fun ls hl => ?_)
            refine lv_iconst (v := nI (0)) F.x F.b dX0_odds_56 (by decide) ?_
            refine lv_istore (lv' := [(6, .int (nI (0))), (5, .int (nI (L 7 k))), (0, .ref (o)), (1, .int (nI (k))), (2, .int (nI (j))), (3, .int (nI (i))), (4, .int (z))]) F.x F.b dX0_odds_57 hl (by decide) rfl (fun ls hl => ?_)
            refine lv_iconst (v := nI (0)) F.x F.b dX0_odds_59 (by decide) ?_
            refine lv_istore (lv' := [(7, .int (nI (0))), (6, .int (nI (0))), (5, .int (nI (L 7 k))), (0, .ref (o)), (1, .int (nI (k))), (2, .int (nI (j))), (3, .int (nI (i))), (4, .int (z))]) F.x F.b dX0_odds_60 hl (by decide) rfl (fun ls hl => ?_)
            refine lv_iconst (v := nI (0)) F.x F.b dX0_odds_62 (by decide) ?_
            refine lv_istore (lv' := [(8, .int (nI (0))), (7, .int (nI (0))), (6, .int (nI (0))), (5, .int (nI (L 7 k))), (0, .ref (o)), (1, .int (nI (k))), (2, .int (nI (j))), (3, .int (nI (i))), (4, .int (z))]) F.x F.b dX0_odds_63 hl (by decide) rfl (fun ls hl => ?_)
            refine W_ind 65 (fun _ => []) (fun n_J => n_J) (fun n_J H locs ls => ∃ (sv : Nat) (S1 : MS), n_J = 256 - sv ∧ (sv ≤ 256) ∧ (cC 2 k S S1) ∧  Iw G A s (cW G o q S1 Y) H locs ∧ lv_has ls 9 [(0, .ref (o)), (1, .int (nI (k))), (2, .int (nI (j))), (3, .int (nI (i))), (4, .int (z)), (5, .int (nI (L 7 k))), (6, .int (nI (cnt (fun n => sbs n (L 7 k) && pBy (lUp L 7 k n) 99 j i) sv))), (7, .int (nI (cnt (fun n => sbs n (L 7 k)) sv))), (8, .int (nI (sv)))]) ?_ _ ⟨0, S, rfl, by omega, by exact cC.rf, I, lv_sub hl [4, 5, 6, 7, 8, 3, 2, 1, 0] rfl⟩
            intro n65 H locs ls hJ ih65
            obtain ⟨sv, S1, hn65, hsv, hc, I, hl⟩ := hJ
            refine lv_iload F.x F.b dX0_odds_65 (lv_at hl 8 rfl) ?_
            refine lv_sipush (v := nI (256)) F.x F.b dX0_odds_67 (by decide) ?_
            refine n_icmp_ge (tgt := 119) F (by omega) (by omega) dX0_odds_70 (by decide) (fun c_70 => ?_) (fun c_70 => ?_)
            · have l1 := cnt_le (fun n => sbs n (L 7 k) && pBy (lUp L 7 k n) 99 j i) sv
              have l2 := cnt_le (fun n => sbs n (L 7 k)) sv
              have hpos : 0 < cnt (fun n => sbs n (L 7 k)) sv := by have h9 := oA_pos hL (show k < 3 by omega); rw [oA, ← show sv = 256 by omega] at h9; exact h9
              refine lv_aload_n F.x F.b dX0_odds_119 rfl (lv_at hl 0 rfl) ?_
              refine c_getr F I 2 (by decide) q126 dX0_odds_120 ?_
              refine lv_iload_n F.x F.b dX0_odds_123 rfl (lv_at hl 1 rfl) ?_
              refine lv_iload F.x F.b dX0_odds_124 (lv_at hl 5 rfl) ?_
              refine c_st F I 2 (by decide) (show k < 3 by omega) dX0_odds_126 (fun H locs (I : Iw G A s (cW G o q (S1.1, va_up S1.2 2 (upd (S1.2 2) (k) (nI (L 7 k)))) Y) H locs) => ?_)
              refine lv_iload F.x F.b dX0_odds_127 (lv_at hl 4 rfl) ?_
              refine lv_if_ne (x := z) (tgt := 137) F.x F.b dX0_odds_129 (by decide) (fun c_129 => ?_) (fun c_129 => ?_)
              · refine lv_iload F.x F.b dX0_odds_137 (lv_at hl 7 rfl) ?_
                refine lv_i2l (v := lN (cnt (fun n => sbs n (L 7 k)) sv)) F.x F.b dX0_odds_139 (nI_l (by omega)) ?_
                refine lv_iload F.x F.b dX0_odds_140 (lv_at hl 7 rfl) ?_
                refine lv_i2l (v := lN (cnt (fun n => sbs n (L 7 k)) sv)) F.x F.b dX0_odds_142 (nI_l (by omega)) ?_
                refine lv_iload F.x F.b dX0_odds_143 (lv_at hl 6 rfl) ?_
                refine lv_i2l (v := lN (cnt (fun n => sbs n (L 7 k) && pBy (lUp L 7 k n) 99 j i) sv)) F.x F.b dX0_odds_145 (nI_l (by omega)) ?_
                refine g_calll I (g_runS (n := 2) (As := [.long (lN (cnt (fun n => sbs n (L 7 k)) sv)), .long (lN (cnt (fun n => sbs n (L 7 k) && pBy (lUp L 7 k n) 99 j i) sv))]) (rest := [.long (lN (cnt (fun n => sbs n (L 7 k)) sv))]) F I (ct_greatest l G _ 257 (cnt (fun n => sbs n (L 7 k)) sv) (cnt (fun n => sbs n (L 7 k) && pBy (lUp L 7 k n) 99 j i) sv) (by omega) (by omega) (by omega) _) q576 q577 q52 q578 hd_ct_greatest ⟨Nat.le_of_ble_eq_true rfl, Nat.le_of_ble_eq_true rfl⟩ rfl rfl hl.1 rfl (lv_room (Nat.le_of_ble_eq_true rfl)) dX0_odds_146 ⟨by first | exact Nat.le_refl _ | decide, by first | exact Nat.le_refl _ | decide⟩) (fun r u_ H locs hp I => ?_)
                obtain rfl := hp
                have hgp : 0 < Nat.gcd (cnt (fun n => sbs n (L 7 k) && pBy (lUp L 7 k n) 99 j i) sv) (cnt (fun n => sbs n (L 7 k)) sv) := Nat.gcd_pos_of_pos_right _ hpos
                have hgl : Nat.gcd (cnt (fun n => sbs n (L 7 k) && pBy (lUp L 7 k n) 99 j i) sv) (cnt (fun n => sbs n (L 7 k)) sv) ≤ cnt (fun n => sbs n (L 7 k)) sv := Nat.le_of_dvd hpos (Nat.gcd_dvd_right _ _)
                refine L_ldiv F dX0_odds_149 (by omega) (by omega) (by omega) ?_
                exact g_lret (u := (S1.1, va_up S1.2 2 (upd (S1.2 2) (k) (nI (L 7 k))))) F I (by exact ⟨by rw [aOdds, if_pos (by simp_all), tk, tj, ti, oM, oA, show sv = 256 by omega]; first | rw [if_pos c_129] | rw [if_neg c_129], cC2.done hc hS (by omega)⟩) dX0_odds_150 (by first | exact Nat.le_refl _ | decide) (by first | exact Nat.le_refl _ | decide)
              · refine lv_iload F.x F.b dX0_odds_132 (lv_at hl 6 rfl) ?_
                refine lv_goto (tgt := 139) F.x F.b dX0_odds_134 (by decide) ?_
                refine lv_i2l (v := lN (cnt (fun n => sbs n (L 7 k) && pBy (lUp L 7 k n) 99 j i) sv)) F.x F.b dX0_odds_139 (nI_l (by omega)) ?_
                refine lv_iload F.x F.b dX0_odds_140 (lv_at hl 7 rfl) ?_
                refine lv_i2l (v := lN (cnt (fun n => sbs n (L 7 k)) sv)) F.x F.b dX0_odds_142 (nI_l (by omega)) ?_
                refine lv_iload F.x F.b dX0_odds_143 (lv_at hl 6 rfl) ?_
                refine lv_i2l (v := lN (cnt (fun n => sbs n (L 7 k) && pBy (lUp L 7 k n) 99 j i) sv)) F.x F.b dX0_odds_145 (nI_l (by omega)) ?_
                refine g_calll I (g_runS (n := 2) (As := [.long (lN (cnt (fun n => sbs n (L 7 k)) sv)), .long (lN (cnt (fun n => sbs n (L 7 k) && pBy (lUp L 7 k n) 99 j i) sv))]) (rest := [.long (lN (cnt (fun n => sbs n (L 7 k) && pBy (lUp L 7 k n) 99 j i) sv))]) F I (ct_greatest l G _ 257 (cnt (fun n => sbs n (L 7 k)) sv) (cnt (fun n => sbs n (L 7 k) && pBy (lUp L 7 k n) 99 j i) sv) (by omega) (by omega) (by omega) _) q576 q577 q52 q578 hd_ct_greatest ⟨Nat.le_of_ble_eq_true rfl, Nat.le_of_ble_eq_true rfl⟩ rfl rfl hl.1 rfl (lv_room (Nat.le_of_ble_eq_true rfl)) dX0_odds_146 ⟨by first | exact Nat.le_refl _ | decide, by first | exact Nat.le_refl _ | decide⟩) (fun r u_ H locs hp I => ?_)
                obtain rfl := hp
                have hgp : 0 < Nat.gcd (cnt (fun n => sbs n (L 7 k) && pBy (lUp L 7 k n) 99 j i) sv) (cnt (fun n => sbs n (L 7 k)) sv) := Nat.gcd_pos_of_pos_right _ hpos
                have hgl : Nat.gcd (cnt (fun n => sbs n (L 7 k) && pBy (lUp L 7 k n) 99 j i) sv) (cnt (fun n => sbs n (L 7 k)) sv) ≤ cnt (fun n => sbs n (L 7 k)) sv := Nat.le_of_dvd hpos (Nat.gcd_dvd_right _ _)
                refine L_ldiv F dX0_odds_149 (by omega) (by omega) (by omega) ?_
                exact g_lret (u := (S1.1, va_up S1.2 2 (upd (S1.2 2) (k) (nI (L 7 k))))) F I (by exact ⟨by rw [aOdds, if_pos (by simp_all), tk, tj, ti, oM, oA, show sv = 256 by omega]; first | rw [if_pos c_129] | rw [if_neg c_129], cC2.done hc hS (by omega)⟩) dX0_odds_150 (by first | exact Nat.le_refl _ | decide) (by first | exact Nat.le_refl _ | decide)
            · refine lv_iload F.x F.b dX0_odds_73 (lv_at hl 8 rfl) ?_
              refine lv_iload F.x F.b dX0_odds_75 (lv_at hl 5 rfl) ?_
              refine lv_iconst (v := (-1)) F.x F.b dX0_odds_77 (by decide) ?_
              refine lv_ixor (x := (nI (L 7 k))) (y := (-1)) F.x F.b dX0_odds_78 ?_
              refine lv_iand (x := (nI (sv))) (y := ((nI (L 7 k)) ^^^ (-1))) F.x F.b dX0_odds_79 ?_
              refine W_cut (α := Nat) (cells := 0) (slots := 0) 113 (fun _ => []) (fun _ H locs ls => ∃ (S2 : MS), ∃ (a : Nat), ∃ (b : Nat), (cC 2 k S S2) ∧ (cnt (fun n => sbs n (L 7 k) && pBy (lUp L 7 k n) 99 j i) (sv + 1) = a) ∧ (cnt (fun n => sbs n (L 7 k)) (sv + 1) = b) ∧ Iw G A s (cW G o q S2 Y) H locs ∧ lv_has ls 9 [(0, .ref (o)), (1, .int (nI (k))), (2, .int (nI (j))), (3, .int (nI (i))), (4, .int (z)), (5, .int (nI (L 7 k))), (6, .int (nI (a))), (7, .int (nI (b))), (8, .int (nI (sv)))]) (fun J113 => ?_) ?_
              · have hS9 := cC2.ld (x := sv) hc hS
                have l1 := cnt_le (fun n => sbs n (L 7 k) && pBy (lUp L 7 k n) 99 j i) sv
                have l2 := cnt_le (fun n => sbs n (L 7 k)) sv
                refine lv_if_ne (x := ((nI (sv)) &&& ((nI (L 7 k)) ^^^ (-1)))) (tgt := 113) F.x F.b dX0_odds_80 (by decide) (fun c_80 => ?_) (fun c_80 => ?_)
                · exact J113 0 _ _ _ ⟨S1, cnt (fun n => sbs n (L 7 k) && pBy (lUp L 7 k n) 99 j i) sv, cnt (fun n => sbs n (L 7 k)) sv, by first | exact cC2.keep (cC2.st hc _) hq96 | exact hc, by first | exact cnt_t (fun n => sbs n (L 7 k) && pBy (lUp L 7 k n) 99 j i) _ (sb_t c_80 c_99) | exact cnt_n (fun n => sbs n (L 7 k) && pBy (lUp L 7 k n) 99 j i) _ (sb_f c_80 c_99) | exact cnt_n (fun n => sbs n (L 7 k) && pBy (lUp L 7 k n) 99 j i) _ (sb_n c_80), by first | exact cnt_t (fun n => sbs n (L 7 k)) _ (decide_eq_true c_80) | exact cnt_n (fun n => sbs n (L 7 k)) _ (decide_eq_false c_80), I, lv_sub hl [0, 1, 2, 3, 4, 5, 6, 7, 8] rfl⟩
                · refine lv_aload_n F.x F.b dX0_odds_83 rfl (lv_at hl 0 rfl) ?_
                  refine c_getr F I 2 (by decide) q126 dX0_odds_84 ?_
                  refine lv_iload_n F.x F.b dX0_odds_87 rfl (lv_at hl 1 rfl) ?_
                  refine lv_iload F.x F.b dX0_odds_88 (lv_at hl 8 rfl) ?_
                  refine c_st F I 2 (by decide) (show k < 3 by omega) dX0_odds_90 (fun H locs (I : Iw G A s (cW G o q (S1.1, va_up S1.2 2 (upd (S1.2 2) (k) (nI (sv)))) Y) H locs) => ?_)
                  refine lv_iload F.x F.b dX0_odds_91 (lv_at hl 6 rfl) ?_
                  refine lv_aload_n F.x F.b dX0_odds_93 rfl (lv_at hl 0 rfl) ?_
                  refine lv_iload_n F.x F.b dX0_odds_94 rfl (lv_at hl 2 rfl) ?_
                  refine lv_iload_n F.x F.b dX0_odds_95 rfl (lv_at hl 3 rfl) ?_
                  refine g_calli I (g_runV (n := 2) (ci := 1) (q0 := 0) (As := [.int (nI (j)), .int (nI (i))]) (rest := [.int (nI (cnt (fun n => sbs n (L 7 k) && pBy (lUp L 7 k n) 99 j i) sv))]) F I (ct_isBy l G o q ((S1.1, va_up S1.2 2 (upd (S1.2 2) (k) (nI (sv))))) Y (j) (i) (lUp L 7 k sv) 99 (by exact hL.up7 (by omega)) (by exact hS9) (by exact hYp) (by omega) (by omega) _) q338 q340 qs6 q52 q341 ⟨rfl, hd_ct_isBy⟩ ⟨Nat.le_of_ble_eq_true rfl, Nat.le_of_ble_eq_true rfl⟩ rfl rfl rfl rfl hl.1 rfl (lv_room (Nat.le_of_ble_eq_true rfl)) dX0_odds_96 ⟨by first | exact Nat.le_refl _ | decide, by first | exact Nat.le_refl _ | decide⟩) (fun r Z96 H locs hp I => ?_)
                  obtain ⟨rfl, hq96⟩ := hp
                  refine z_eq (tgt := 106) F dX0_odds_99 (by decide) (fun c_99 => ?_) (fun c_99 => ?_)
                  · refine lv_iconst (v := nI (0)) F.x F.b dX0_odds_106 (by decide) ?_
                    refine n_iadd F dX0_odds_107 ?_
                    refine lv_istore (lv' := [(6, .int (nI ((cnt (fun n => sbs n (L 7 k) && pBy (lUp L 7 k n) 99 j i) sv + 0)))), (0, .ref (o)), (1, .int (nI (k))), (2, .int (nI (j))), (3, .int (nI (i))), (4, .int (z)), (5, .int (nI (L 7 k))), (7, .int (nI (cnt (fun n => sbs n (L 7 k)) sv))), (8, .int (nI (sv)))]) F.x F.b dX0_odds_108 hl (by decide) rfl (fun ls hl => ?_)
                    refine lv_iinc (v := nI ((cnt (fun n => sbs n (L 7 k)) sv + 1))) (lv' := [(7, .int (nI ((cnt (fun n => sbs n (L 7 k)) sv + 1)))), (6, .int (nI ((cnt (fun n => sbs n (L 7 k) && pBy (lUp L 7 k n) 99 j i) sv + 0)))), (0, .ref (o)), (1, .int (nI (k))), (2, .int (nI (j))), (3, .int (nI (i))), (4, .int (z)), (5, .int (nI (L 7 k))), (8, .int (nI (sv)))]) F.x F.b dX0_odds_110 hl (k := 7) rfl (nI_1 (cnt (fun n => sbs n (L 7 k)) sv)) (by decide) rfl (fun ls hl => ?_)
                    exact J113 0 _ _ _ ⟨Z96, (cnt (fun n => sbs n (L 7 k) && pBy (lUp L 7 k n) 99 j i) sv + 0), (cnt (fun n => sbs n (L 7 k)) sv + 1), by first | exact cC2.keep (cC2.st hc _) hq96 | exact hc, by first | exact cnt_t (fun n => sbs n (L 7 k) && pBy (lUp L 7 k n) 99 j i) _ (sb_t c_80 c_99) | exact cnt_n (fun n => sbs n (L 7 k) && pBy (lUp L 7 k n) 99 j i) _ (sb_f c_80 c_99) | exact cnt_n (fun n => sbs n (L 7 k) && pBy (lUp L 7 k n) 99 j i) _ (sb_n c_80), by first | exact cnt_t (fun n => sbs n (L 7 k)) _ (decide_eq_true c_80) | exact cnt_n (fun n => sbs n (L 7 k)) _ (decide_eq_false c_80), I, lv_sub hl [2, 3, 4, 5, 6, 7, 1, 0, 8] rfl⟩
                  · refine lv_iconst (v := nI (1)) F.x F.b dX0_odds_102 (by decide) ?_
                    refine lv_goto (tgt := 107) F.x F.b dX0_odds_103 (by decide) ?_
                    refine n_iadd F dX0_odds_107 ?_
                    refine lv_istore (lv' := [(6, .int (nI ((cnt (fun n => sbs n (L 7 k) && pBy (lUp L 7 k n) 99 j i) sv + 1)))), (0, .ref (o)), (1, .int (nI (k))), (2, .int (nI (j))), (3, .int (nI (i))), (4, .int (z)), (5, .int (nI (L 7 k))), (7, .int (nI (cnt (fun n => sbs n (L 7 k)) sv))), (8, .int (nI (sv)))]) F.x F.b dX0_odds_108 hl (by decide) rfl (fun ls hl => ?_)
                    refine lv_iinc (v := nI ((cnt (fun n => sbs n (L 7 k)) sv + 1))) (lv' := [(7, .int (nI ((cnt (fun n => sbs n (L 7 k)) sv + 1)))), (6, .int (nI ((cnt (fun n => sbs n (L 7 k) && pBy (lUp L 7 k n) 99 j i) sv + 1)))), (0, .ref (o)), (1, .int (nI (k))), (2, .int (nI (j))), (3, .int (nI (i))), (4, .int (z)), (5, .int (nI (L 7 k))), (8, .int (nI (sv)))]) F.x F.b dX0_odds_110 hl (k := 7) rfl (nI_1 (cnt (fun n => sbs n (L 7 k)) sv)) (by decide) rfl (fun ls hl => ?_)
                    exact J113 0 _ _ _ ⟨Z96, (cnt (fun n => sbs n (L 7 k) && pBy (lUp L 7 k n) 99 j i) sv + 1), (cnt (fun n => sbs n (L 7 k)) sv + 1), by first | exact cC2.keep (cC2.st hc _) hq96 | exact hc, by first | exact cnt_t (fun n => sbs n (L 7 k) && pBy (lUp L 7 k n) 99 j i) _ (sb_t c_80 c_99) | exact cnt_n (fun n => sbs n (L 7 k) && pBy (lUp L 7 k n) 99 j i) _ (sb_f c_80 c_99) | exact cnt_n (fun n => sbs n (L 7 k) && pBy (lUp L 7 k n) 99 j i) _ (sb_n c_80), by first | exact cnt_t (fun n => sbs n (L 7 k)) _ (decide_eq_true c_80) | exact cnt_n (fun n => sbs n (L 7 k)) _ (decide_eq_false c_80), I, lv_sub hl [2, 3, 4, 5, 6, 7, 1, 0, 8] rfl⟩
              · intro _ H locs ls hJ
                obtain ⟨S2, a, b, hc, ha, hb, I, hl⟩ := hJ
                subst ha
                subst hb
                refine lv_iinc (v := nI ((sv + 1))) (lv' := [(8, .int (nI ((sv + 1)))), (0, .ref (o)), (1, .int (nI (k))), (2, .int (nI (j))), (3, .int (nI (i))), (4, .int (z)), (5, .int (nI (L 7 k))), (6, .int (nI (cnt (fun n => sbs n (L 7 k) && pBy (lUp L 7 k n) 99 j i) (sv + 1)))), (7, .int (nI (cnt (fun n => sbs n (L 7 k)) (sv + 1))))]) F.x F.b dX0_odds_113 hl (k := 8) rfl (nI_1 (sv)) (by decide) rfl (fun ls hl => ?_)
                refine lv_goto (tgt := 65) F.x F.b dX0_odds_116 (by decide) ?_
                exact ih65 _ _ _ _ (by omega) ⟨sv + 1, S2, rfl, by omega, by exact hc, I, lv_sub hl [1, 2, 3, 4, 5, 6, 7, 8, 0] rfl⟩
          · refine lv_ldc2 (v := -9223372036854775808) F.x F.b F.o (F.t _ q575) dX0_odds_44 ?_
            exact g_lret (u := S) F I (by exact ⟨by simp_all [aOdds], cKeep.rf⟩) dX0_odds_47 (by first | exact Nat.le_refl _ | decide) (by first | exact Nat.le_refl _ | decide)
