/-! THE COMPONENT, gave, odds -/
set_option maxRecDepth 100000
theorem ls_0 (f : Nat → Bool) : ∀ n, cnt f n = 0 → lsN f n = -9
  | 0, _ => rfl
  | n + 1, h => by
    rcases hf : f n with _ | _
    · rw [cnt_n f n hf] at h; rw [lsN_n f n hf]; exact ls_0 f n h
    · rw [cnt_t f n hf] at h; omega
theorem ls_s {f : Nat → Bool} {N : Nat} : lsN f N = if cnt f N = 0 then -9 else lsN f N := by
  split
  · rename_i h; exact ls_0 f N h
  · rfl
theorem ls_t {f : Nat → Bool} {N t : Nat} {b : Int32} (h : f t = true) (hb : lsN f N = if cnt f (t + 1) = 0 then b else lsN f (t + 1)) : lsN f N = if cnt f t = 0 then nI t else lsN f t := by
  rw [hb, cnt_t f t h, if_neg (by omega), lsN, if_pos h]
theorem ls_f {f : Nat → Bool} {N t : Nat} {b : Int32} (h : f t = false) (hb : lsN f N = if cnt f (t + 1) = 0 then b else lsN f (t + 1)) : lsN f N = if cnt f t = 0 then b else lsN f t := by
  rw [hb, cnt_n f t h, lsN_n f t h]

theorem hd_ct_gave : yX0_gave.cls ≠ "java/lang/invoke/MethodHandle" ∧ yX0_gave.cls ≠ "java/lang/invoke/VarHandle" ∧ (parseMethodDescriptor yX0_gave.desc).map (fun d => d.parameters.length) = some 2 := by decide +kernel
set_option maxHeartbeats 4000000 in
theorem ct_gave (l : Launch) (G : gG) (o : Nat) (q : Nat → Nat) (S : MS) (Y : va_W)  (x : Int32) (v : Int32) (L : LD) (hL : LOk L) (hS : cLs S L) (hYp : cYp G o q Y L 99) (hR : ROk L) (hYr : cYr G q Y L) : gMi l yX0_gave cX0_gave 7 (some .int) ({ frames := 7, cells := 0, slots := 0, locals := 157 } : Room) G [.ref o, .int (x), .int (v)] (cW G o q S Y) (fun S' => cW G o q S' Y) (fun ρ S' => aGave L x v = ρ ∧ cKeep S S') := by
  refine gMi_of (by decide) (Nat.le_of_ble_eq_true rfl) ?_
  intro p e s m below meth c ls A F I hl
  have hl : lv_has ls 7 [(0, .ref (o)), (1, .int (x)), (2, .int (v))] := hl
  have hL5 := hL.1
  have hS0 := hS
  obtain ⟨el, hYl, hYpr⟩ := id hYp
  have hR8 := hR.1
  obtain ⟨elr, hYlr, hYrr⟩ := id hYr
  refine lv_iload_n F.x F.b dX0_gave_0 rfl (lv_at hl 1 rfl) ?_
  refine g_calli I (g_runS (n := 1) (As := [.int (x)]) (rest := []) F I (ct_isValley l G _ (x)   _) q269 q270 q52 q271 hd_ct_isValley ⟨Nat.le_of_ble_eq_true rfl, Nat.le_of_ble_eq_true rfl⟩ rfl rfl hl.1 rfl (lv_room (Nat.le_of_ble_eq_true rfl)) dX0_gave_1 ⟨by first | exact Nat.le_refl _ | decide, by first | exact Nat.le_refl _ | decide⟩) (fun r u_ H locs hp I => ?_)
  obtain rfl := hp
  refine z_ne (tgt := 9) F dX0_gave_4 (by decide) (fun c_4 => ?_) (fun c_4 => ?_)
  · obtain ⟨j, hj, rfl⟩ := wi_n (m := 2) (by decide) c_4
    have tj : (nI j).toNatClampNeg = j := nI_clamp (by omega)
    refine lv_iload_n F.x F.b dX0_gave_9 rfl (lv_at hl 2 rfl) ?_
    refine lv_i2l (v := (v).toInt64) F.x F.b dX0_gave_10 rfl ?_
    refine lv_lconst (v := 0) F.x F.b dX0_gave_11 (by decide) ?_
    refine lv_lconst (v := 1) F.x F.b dX0_gave_12 (by decide) ?_
    refine g_calli I (g_runS (n := 3) (As := [.long ((v).toInt64), .long (0), .long (1)]) (rest := []) F I (ct_in l G _ ((v).toInt64) (0) (1)   _) q186 q187 q52 q188 hd_ct_in ⟨Nat.le_of_ble_eq_true rfl, Nat.le_of_ble_eq_true rfl⟩ rfl rfl hl.1 rfl (lv_room (Nat.le_of_ble_eq_true rfl)) dX0_gave_13 ⟨by first | exact Nat.le_refl _ | decide, by first | exact Nat.le_refl _ | decide⟩) (fun r u_ H locs hp I => ?_)
    obtain rfl := hp
    refine W.val (y := bI (mWi v 0 1)) (by exact congrArg bI (inL_wi v 0 1)) ?_
    refine z_ne (tgt := 22) F dX0_gave_16 (by decide) (fun c_16 => ?_) (fun c_16 => ?_)
    · refine lv_aload_n F.x F.b dX0_gave_22 rfl (lv_at hl 0 rfl) ?_
      refine g_calli I (g_runV (n := 0) (ci := 1) (q0 := 0) (As := []) (rest := []) F I (ct_noLand l G o q (S) Y  L 99 (by exact hL) (by exact hS) (by exact hYp) _) q252 q254 qs1 q52 q255 ⟨rfl, hd_ct_noLand⟩ ⟨Nat.le_of_ble_eq_true rfl, Nat.le_of_ble_eq_true rfl⟩ rfl rfl rfl rfl hl.1 rfl (lv_room (Nat.le_of_ble_eq_true rfl)) dX0_gave_23 ⟨by first | exact Nat.le_refl _ | decide, by first | exact Nat.le_refl _ | decide⟩) (fun r u_ H locs hp I => ?_)
      obtain ⟨rfl, rfl⟩ := hp
      refine z_eq (tgt := 32) F dX0_gave_26 (by decide) (fun c_26 => ?_) (fun c_26 => ?_)
      · refine lv_aload_n F.x F.b dX0_gave_32 rfl (lv_at hl 0 rfl) ?_
        refine c_getr F I 2 (by decide) q126 dX0_gave_33 ?_
        refine lv_iload_n F.x F.b dX0_gave_36 rfl (lv_at hl 1 rfl) ?_
        refine c_ld (v := ((S.2 2) (j))) F I 2 (by decide) (show j < 3 by omega) rfl dX0_gave_37 ?_
        refine W.val (y := nI (L 7 j)) (by exact hS.2 j (by omega)) ?_
        refine lv_istore_n (lv' := [(3, .int (nI (L 7 j))), (0, .ref (o)), (1, .int (nI (j))), (2, .int (v))]) F.x F.b dX0_gave_38 rfl hl (by decide) rfl (fun ls hl => ?_)
        refine lv_iconst (v := nI (0)) F.x F.b dX0_gave_39 (by decide) ?_
        refine lv_istore (lv' := [(4, .int (nI (0))), (3, .int (nI (L 7 j))), (0, .ref (o)), (1, .int (nI (j))), (2, .int (v))]) F.x F.b dX0_gave_40 hl (by decide) rfl (fun ls hl => ?_)
        refine lv_bipush (v := (-9)) F.x F.b dX0_gave_42 (by decide) ?_
        refine lv_istore (lv' := [(5, .int ((-9))), (4, .int (nI (0))), (3, .int (nI (L 7 j))), (0, .ref (o)), (1, .int (nI (j))), (2, .int (v))]) F.x F.b dX0_gave_44 hl (by decide) rfl (fun ls hl => ?_)
        refine lv_sipush (v := nI (255)) F.x F.b dX0_gave_46 (by decide) ?_
        refine W.val (y := (nI (255 + 1) - 1)) (by rfl) ?_
        refine lv_istore (lv' := [(6, .int ((nI (255 + 1) - 1))), (5, .int ((-9))), (4, .int (nI (0))), (3, .int (nI (L 7 j))), (0, .ref (o)), (1, .int (nI (j))), (2, .int (v))]) F.x F.b dX0_gave_49 hl (by decide) rfl (fun ls hl => ?_)
        refine W_ind 51 (fun _ => []) (fun n_J => n_J) (fun n_J H locs ls => ∃ (t : Nat) (acc : Nat) (b : Int32) (S1 : MS), n_J = t ∧ (t ≤ 256) ∧ (cC 2 j S S1) ∧ (acc + cnt (fun s => pSo (lUp L 7 j s) 99 (L 26 0)) t = cnt (fun s => pSo (lUp L 7 j s) 99 (L 26 0)) 256) ∧ (lsN (fun s => pSo (lUp L 7 j s) 99 (L 26 0)) 256 = if cnt (fun s => pSo (lUp L 7 j s) 99 (L 26 0)) t = 0 then b else lsN (fun s => pSo (lUp L 7 j s) 99 (L 26 0)) t) ∧  Iw G A s (cW G o q S1 Y) H locs ∧ lv_has ls 7 [(0, .ref (o)), (1, .int (nI (j))), (2, .int (v)), (3, .int (nI (L 7 j))), (4, .int (nI (acc))), (5, .int (b)), (6, .int ((nI t - 1)))]) ?_ _ ⟨256, 0, (-9), S, rfl, by omega, by exact cC.rf, by omega, by exact ls_s, I, lv_sub hl [4, 5, 6, 3, 2, 1, 0] rfl⟩
        intro n51 H locs ls hJ ih51
        obtain ⟨t, acc, b, S1, hn51, ht, hc, ha, hb, I, hl⟩ := hJ
        refine lv_iload F.x F.b dX0_gave_51 (lv_at hl 6 rfl) ?_
        rcases Nat.eq_zero_or_pos t with ht0 | ht0
        · subst ht0
          refine W.val (y := -1) rfl ?_
          refine lv_if_lt (x := (-1)) (tgt := 84) F.x F.b dX0_gave_53 (by decide) (fun c_53 => ?_) (fun c_53 => absurd c_53 (by decide))
          refine lv_aload_n F.x F.b dX0_gave_84 rfl (lv_at hl 0 rfl) ?_
          refine c_getr F I 2 (by decide) q126 dX0_gave_85 ?_
          refine lv_iload_n F.x F.b dX0_gave_88 rfl (lv_at hl 1 rfl) ?_
          refine lv_iload_n F.x F.b dX0_gave_89 rfl (lv_at hl 3 rfl) ?_
          refine c_st F I 2 (by decide) (show j < 3 by omega) dX0_gave_90 (fun H locs (I : Iw G A s (cW G o q (S1.1, va_up S1.2 2 (upd (S1.2 2) (j) (nI (L 7 j)))) Y) H locs) => ?_)
          refine lv_iload_n F.x F.b dX0_gave_91 rfl (lv_at hl 2 rfl) ?_
          refine lv_if_ne (x := v) (tgt := 100) F.x F.b dX0_gave_92 (by decide) (fun c_92 => ?_) (fun c_92 => ?_)
          · refine lv_iload F.x F.b dX0_gave_100 (lv_at hl 5 rfl) ?_
            exact g_iret (u := (S1.1, va_up S1.2 2 (upd (S1.2 2) (j) (nI (L 7 j))))) F I (by exact ⟨by rw [aGave, if_pos c_4, if_pos c_16, if_neg (by simpa using c_26), tj, if_neg c_92, hb, if_pos (show cnt (fun s => pSo (lUp L 7 j s) 99 (L 26 0)) 0 = 0 from rfl)], cC2.done hc hS (by omega)⟩) dX0_gave_102 (by first | exact Nat.le_refl _ | decide) (by first | exact Nat.le_refl _ | decide)
          · refine lv_iload F.x F.b dX0_gave_95 (lv_at hl 4 rfl) ?_
            refine lv_goto (tgt := 102) F.x F.b dX0_gave_97 (by decide) ?_
            exact g_iret (u := (S1.1, va_up S1.2 2 (upd (S1.2 2) (j) (nI (L 7 j))))) F I (by exact ⟨by rw [aGave, if_pos c_4, if_pos c_16, if_neg (by simpa using c_26), tj, if_pos c_92, show cnt (fun s => pSo (lUp L 7 j s) 99 (L 26 0)) 256 = acc by simpa [cnt] using ha.symm], cC2.done hc hS (by omega)⟩) dX0_gave_102 (by first | exact Nat.le_refl _ | decide) (by first | exact Nat.le_refl _ | decide)
        · obtain ⟨t1, rfl⟩ : ∃ t1, t = t1 + 1 := ⟨t - 1, by omega⟩
          refine W.val (y := nI t1) (nI_pred t1) ?_
          refine n_if_lt (tgt := 84) F (by omega) dX0_gave_53 (by decide) (fun c_53 => absurd c_53 (by exact fun z9 => z9)) (fun c_53 => ?_)
          refine lv_aload_n F.x F.b dX0_gave_56 rfl (lv_at hl 0 rfl) ?_
          refine c_getr F I 2 (by decide) q126 dX0_gave_57 ?_
          refine lv_iload_n F.x F.b dX0_gave_60 rfl (lv_at hl 1 rfl) ?_
          refine lv_iload F.x F.b dX0_gave_61 (lv_at hl 6 rfl) ?_
          refine W.val (y := nI (t1)) (by exact nI_pred t1) ?_
          refine c_st F I 2 (by decide) (show j < 3 by omega) dX0_gave_63 (fun H locs (I : Iw G A s (cW G o q (S1.1, va_up S1.2 2 (upd (S1.2 2) (j) (nI (t1)))) Y) H locs) => ?_)
          have hSv := cC2.ld (x := t1) hc hS
          refine lv_aload_n F.x F.b dX0_gave_64 rfl (lv_at hl 0 rfl) ?_
          refine g_calli I (g_runV (n := 0) (ci := 1) (q0 := 0) (As := []) (rest := []) F I (ct_areSo l G o q ((S1.1, va_up S1.2 2 (upd (S1.2 2) (j) (nI (t1))))) Y  (lUp L 7 j t1) 99 (by exact hL.up7 (by omega)) (by exact hSv) (by exact hYp) (by exact hR) (by exact hYr) _) q471 q473 qs13 q52 q474 ⟨rfl, hd_ct_areSo⟩ ⟨Nat.le_of_ble_eq_true rfl, Nat.le_of_ble_eq_true rfl⟩ rfl rfl rfl rfl hl.1 rfl (lv_room (Nat.le_of_ble_eq_true rfl)) dX0_gave_65 ⟨by first | exact Nat.le_refl _ | decide, by first | exact Nat.le_refl _ | decide⟩) (fun r Z65 H locs hp I => ?_)
          obtain ⟨rfl, hq65⟩ := hp
          refine z_eq (tgt := 78) F dX0_gave_68 (by decide) (fun c_68 => ?_) (fun c_68 => ?_)
          · refine lv_iinc (v := nI t1 - 1) (lv' := [(6, .int ((nI t1 - 1))), (0, .ref (o)), (1, .int (nI (j))), (2, .int (v)), (3, .int (nI (L 7 j))), (4, .int (nI (acc))), (5, .int (b))]) F.x F.b dX0_gave_78 hl (k := 6) rfl (dec_ok t1) (by decide) rfl (fun ls hl => ?_)
            refine lv_goto (tgt := 51) F.x F.b dX0_gave_81 (by decide) ?_
            exact ih51 _ _ _ _ (by omega) ⟨t1, acc, b, Z65, rfl, by omega, by exact cC2.keep (cC2.st hc _) hq65, by first | (have e9 : cnt (fun s => pSo (lUp L 7 j s) 99 (L 26 0)) (t1 + 1) = cnt (fun s => pSo (lUp L 7 j s) 99 (L 26 0)) t1 + 1 := (cnt_t _ _ c_68); omega) | (have e9 : cnt (fun s => pSo (lUp L 7 j s) 99 (L 26 0)) (t1 + 1) = cnt (fun s => pSo (lUp L 7 j s) 99 (L 26 0)) t1 := (cnt_n _ _ c_68); omega), by first | exact ls_t c_68 hb | exact ls_f c_68 hb, I, lv_sub hl [1, 2, 3, 4, 5, 6, 0] rfl⟩
          · refine lv_iinc (v := nI ((acc + 1))) (lv' := [(4, .int (nI ((acc + 1)))), (0, .ref (o)), (1, .int (nI (j))), (2, .int (v)), (3, .int (nI (L 7 j))), (5, .int (b)), (6, .int ((nI (t1 + 1) - 1)))]) F.x F.b dX0_gave_71 hl (k := 4) rfl (nI_1 (acc)) (by decide) rfl (fun ls hl => ?_)
            refine lv_iload F.x F.b dX0_gave_74 (lv_at hl 6 rfl) ?_
            refine W.val (y := (nI t1)) (by exact nI_pred t1) ?_
            refine lv_istore (lv' := [(5, .int ((nI t1))), (4, .int (nI ((acc + 1)))), (0, .ref (o)), (1, .int (nI (j))), (2, .int (v)), (3, .int (nI (L 7 j))), (6, .int ((nI (t1 + 1) - 1)))]) F.x F.b dX0_gave_76 hl (by decide) rfl (fun ls hl => ?_)
            refine lv_iinc (v := nI t1 - 1) (lv' := [(6, .int ((nI t1 - 1))), (5, .int ((nI t1))), (4, .int (nI ((acc + 1)))), (0, .ref (o)), (1, .int (nI (j))), (2, .int (v)), (3, .int (nI (L 7 j)))]) F.x F.b dX0_gave_78 hl (k := 6) rfl (dec_ok t1) (by decide) rfl (fun ls hl => ?_)
            refine lv_goto (tgt := 51) F.x F.b dX0_gave_81 (by decide) ?_
            exact ih51 _ _ _ _ (by omega) ⟨t1, (acc + 1), (nI t1), Z65, rfl, by omega, by exact cC2.keep (cC2.st hc _) hq65, by first | (have e9 : cnt (fun s => pSo (lUp L 7 j s) 99 (L 26 0)) (t1 + 1) = cnt (fun s => pSo (lUp L 7 j s) 99 (L 26 0)) t1 + 1 := (cnt_t _ _ c_68); omega) | (have e9 : cnt (fun s => pSo (lUp L 7 j s) 99 (L 26 0)) (t1 + 1) = cnt (fun s => pSo (lUp L 7 j s) 99 (L 26 0)) t1 := (cnt_n _ _ c_68); omega), by first | exact ls_t c_68 hb | exact ls_f c_68 hb, I, lv_sub hl [3, 4, 5, 6, 2, 1, 0] rfl⟩
      · refine lv_bipush (v := (-3)) F.x F.b dX0_gave_29 (by decide) ?_
        exact g_iret (u := S) F I (by exact ⟨by simp_all [aGave], cKeep.rf⟩) dX0_gave_31 (by first | exact Nat.le_refl _ | decide) (by first | exact Nat.le_refl _ | decide)
    · refine lv_bipush (v := (-2)) F.x F.b dX0_gave_19 (by decide) ?_
      exact g_iret (u := S) F I (by exact ⟨by simp_all [aGave], cKeep.rf⟩) dX0_gave_21 (by first | exact Nat.le_refl _ | decide) (by first | exact Nat.le_refl _ | decide)
  · refine lv_iconst (v := (-1)) F.x F.b dX0_gave_7 (by decide) ?_
    exact g_iret (u := S) F I (by exact ⟨by simp_all [aGave], cKeep.rf⟩) dX0_gave_8 (by first | exact Nat.le_refl _ | decide) (by first | exact Nat.le_refl _ | decide)
