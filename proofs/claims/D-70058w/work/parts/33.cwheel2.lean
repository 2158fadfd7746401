/-! THE COMPONENT, the wheel -/
set_option maxRecDepth 100000

theorem hd_ct_noLand : yX0_noLand.cls ≠ "java/lang/invoke/MethodHandle" ∧ yX0_noLand.cls ≠ "java/lang/invoke/VarHandle" ∧ (parseMethodDescriptor yX0_noLand.desc).map (fun d => d.parameters.length) = some 0 := by decide +kernel
set_option maxHeartbeats 4000000 in
theorem ct_noLand (l : Launch) (G : gG) (o : Nat) (q : Nat → Nat) (S : MS) (Y : va_W)   (L : LD) (ms : Nat) (hL : LOk L) (hS : cLs S L) (hYp : cYp G o q Y L ms) : gMi l yX0_noLand cX0_noLand 1 (some .boolean) ({ frames := 1, cells := 0, slots := 0, locals := 20 } : Room) G [.ref o] (cW G o q S Y) (fun S' => cW G o q S' Y) (fun ρ S' => bI (decide (L 5 0 = 0)) = ρ ∧ S = S') := by
  refine gMi_of (by decide) (Nat.le_of_ble_eq_true rfl) ?_
  intro p e s m below meth c ls A F I hl
  have hl : lv_has ls 1 [(0, .ref (o))] := hl
  have hL5 := hL.1
  have hS0 := hS
  obtain ⟨el, hYl, hYr⟩ := id hYp
  refine lv_aload_n F.x F.b dX0_noLand_0 rfl (lv_at hl 0 rfl) ?_
  refine c_getr F I 3 (by decide) q127 dX0_noLand_1 ?_
  refine c_lempty (fd := 3) (rest := []) F I hYl (by omega) hl.1 (Nat.le_of_ble_eq_true rfl) ⟨Nat.le_of_ble_eq_true rfl, Nat.le_of_ble_eq_true rfl⟩ ⟨by first | exact Nat.le_refl _ | decide, by first | exact Nat.le_refl _ | decide⟩ q257 dX0_noLand_4 (fun H locs I => ?_)
  exact g_zret (u := S) F I (by first | exact bI_01 _ | exact Or.inl rfl | exact Or.inr rfl) (by exact ⟨rfl, rfl⟩) dX0_noLand_9 (by first | exact Nat.le_refl _ | decide) (by first | exact Nat.le_refl _ | decide)

theorem hd_ct_noPass : yX0_noPass.cls ≠ "java/lang/invoke/MethodHandle" ∧ yX0_noPass.cls ≠ "java/lang/invoke/VarHandle" ∧ (parseMethodDescriptor yX0_noPass.desc).map (fun d => d.parameters.length) = some 1 := by decide +kernel
set_option maxHeartbeats 4000000 in
theorem ct_noPass (l : Launch) (G : gG) (o : Nat) (q : Nat → Nat) (S : MS) (Y : va_W)  (x : Int32) (L : LD) (ms : Nat) (hL : LOk L) (hS : cLs S L) (hYp : cYp G o q Y L ms) : gMi l yX0_noPass cX0_noPass 2 (some .boolean) ({ frames := 1, cells := 0, slots := 0, locals := 25 } : Room) G [.ref o, .int (x)] (cW G o q S Y) (fun S' => cW G o q S' Y) (fun ρ S' => bI (!pvP L x) = ρ ∧ S = S') := by
  refine gMi_of (by decide) (Nat.le_of_ble_eq_true rfl) ?_
  intro p e s m below meth c ls A F I hl
  have hl : lv_has ls 2 [(0, .ref (o)), (1, .int (x))] := hl
  have hL5 := hL.1
  have hS0 := hS
  obtain ⟨el, hYl, hYr⟩ := id hYp
  have e9 : inL x.toInt64 0 (nI (L 5 0) - 1).toInt64 = pvP L x := (inL_wi x 0 (nI (L 5 0) - 1)).trans (pv_eq hL5 x)
  refine lv_iload_n F.x F.b dX0_noPass_0 rfl (lv_at hl 1 rfl) ?_
  refine lv_i2l (v := (x).toInt64) F.x F.b dX0_noPass_1 rfl ?_
  refine lv_lconst (v := 0) F.x F.b dX0_noPass_2 (by decide) ?_
  refine lv_aload_n F.x F.b dX0_noPass_3 rfl (lv_at hl 0 rfl) ?_
  refine c_getr F I 3 (by decide) q127 dX0_noPass_4 ?_
  refine c_lsize (fd := 3) (rest := [.long (0), .long ((x).toInt64)]) F I hYl hl.1 (Nat.le_of_ble_eq_true rfl) ⟨Nat.le_of_ble_eq_true rfl, Nat.le_of_ble_eq_true rfl⟩ ⟨by first | exact Nat.le_refl _ | decide, by first | exact Nat.le_refl _ | decide⟩ q177 dX0_noPass_7 (fun H locs I => ?_)
  refine lv_iconst (v := nI (1)) F.x F.b dX0_noPass_12 (by decide) ?_
  refine lv_isub (x := (nI (L 5 0))) (y := 1) F.x F.b dX0_noPass_13 ?_
  refine lv_i2l (v := (((nI (L 5 0)) - 1)).toInt64) F.x F.b dX0_noPass_14 rfl ?_
  refine g_calli I (g_runS (n := 3) (As := [.long ((x).toInt64), .long (0), .long ((((nI (L 5 0)) - 1)).toInt64)]) (rest := []) F I (ct_in l G _ ((x).toInt64) (0) ((((nI (L 5 0)) - 1)).toInt64)   _) q186 q187 q52 q188 hd_ct_in ⟨Nat.le_of_ble_eq_true rfl, Nat.le_of_ble_eq_true rfl⟩ rfl rfl hl.1 rfl (lv_room (Nat.le_of_ble_eq_true rfl)) dX0_noPass_15 ⟨by first | exact Nat.le_refl _ | decide, by first | exact Nat.le_refl _ | decide⟩) (fun r u_ H locs hp I => ?_)
  obtain rfl := hp
  refine W.val (y := bI (pvP L x)) (by exact congrArg bI e9) ?_
  refine z_ne (tgt := 25) F dX0_noPass_18 (by decide) (fun c_18 => ?_) (fun c_18 => ?_)
  · refine lv_iconst (v := nI (0)) F.x F.b dX0_noPass_25 (by decide) ?_
    exact g_zret (u := S) F I (by first | exact bI_01 _ | exact Or.inl rfl | exact Or.inr rfl) (by exact ⟨by simp_all [bI, nI_0, nI1], rfl⟩) dX0_noPass_26 (by first | exact Nat.le_refl _ | decide) (by first | exact Nat.le_refl _ | decide)
  · refine lv_iconst (v := nI (1)) F.x F.b dX0_noPass_21 (by decide) ?_
    refine lv_goto (tgt := 26) F.x F.b dX0_noPass_22 (by decide) ?_
    exact g_zret (u := S) F I (by first | exact bI_01 _ | exact Or.inl rfl | exact Or.inr rfl) (by exact ⟨by simp_all [bI, nI_0, nI1], rfl⟩) dX0_noPass_26 (by first | exact Nat.le_refl _ | decide) (by first | exact Nat.le_refl _ | decide)

theorem hd_ct_comes : yX0_comes.cls ≠ "java/lang/invoke/MethodHandle" ∧ yX0_comes.cls ≠ "java/lang/invoke/VarHandle" ∧ (parseMethodDescriptor yX0_comes.desc).map (fun d => d.parameters.length) = some 4 := by decide +kernel
set_option maxHeartbeats 4000000 in
theorem ct_comes (l : Launch) (G : gG) (o : Nat) (q : Nat → Nat) (S : MS) (Y : va_W)  (d : Nat) (v : Nat) (r : Nat) (x : Nat) (w : WH) (hT : cTb S w) (hw : tOk w.1) (hv : v < 3) (hr : r < 2) (hx : x ≤ 98) (hd : d < 8) : gMv l yX0_comes cX0_comes 6 none ({ frames := 1, cells := 0, slots := 0, locals := 24 } : Room) G [.ref o, .int (nI (d)), .int (nI (v)), .int (nI (r)), .int (nI (x))] (cW G o q S Y) (fun S' => cW G o q S' Y) (fun S' => cKeep S S' ∧ cTb S' (pCm w.1 d v r x, w.2)) := by
  refine gMv_of (by decide) (Nat.le_of_ble_eq_true rfl) ?_
  intro p e s m below meth c ls A F I hl
  have hl : lv_has ls 6 [(0, .ref (o)), (1, .int (nI (d))), (2, .int (nI (v))), (3, .int (nI (r))), (4, .int (nI (x)))] := hl
  have hk := pSp_lt hd hv hr
  have hb := hw.le hk
  have h4 : S.2 4 (pSp d v r) = eN (w.1 (pSp d v r)) := hT.1 _ hk
  refine lv_iload_n F.x F.b dX0_comes_0 rfl (lv_at hl 1 rfl) ?_
  refine lv_iload_n F.x F.b dX0_comes_1 rfl (lv_at hl 2 rfl) ?_
  refine lv_iload_n F.x F.b dX0_comes_2 rfl (lv_at hl 3 rfl) ?_
  refine g_calli I (g_runS (n := 3) (As := [.int (nI (d)), .int (nI (v)), .int (nI (r))]) (rest := []) F I (ct_placeOf l G _ (d) (v) (r)   _) q313 q314 q52 q315 hd_ct_placeOf ⟨Nat.le_of_ble_eq_true rfl, Nat.le_of_ble_eq_true rfl⟩ rfl rfl hl.1 rfl (lv_room (Nat.le_of_ble_eq_true rfl)) dX0_comes_3 ⟨by first | exact Nat.le_refl _ | decide, by first | exact Nat.le_refl _ | decide⟩) (fun r u_ H locs hp I => ?_)
  obtain rfl := hp
  refine lv_istore (lv' := [(5, .int (nI (pSp d v r))), (0, .ref (o)), (1, .int (nI (d))), (2, .int (nI (v))), (3, .int (nI (r))), (4, .int (nI (x)))]) F.x F.b dX0_comes_6 hl (by decide) rfl (fun ls hl => ?_)
  refine lv_aload_n F.x F.b dX0_comes_8 rfl (lv_at hl 1 rfl) ?_
  refine c_getr F I 4 (by decide) q128 dX0_comes_9 ?_
  refine lv_iload F.x F.b dX0_comes_12 (lv_at hl 0 rfl) ?_
  refine lv_aload_n F.x F.b dX0_comes_14 rfl (lv_at hl 1 rfl) ?_
  refine c_getr F I 4 (by decide) q128 dX0_comes_15 ?_
  refine lv_iload F.x F.b dX0_comes_18 (lv_at hl 0 rfl) ?_
  refine c_ld (v := ((S.2 4) (pSp d v r))) F I 4 (by decide) (show pSp d v r < 48 by omega) rfl dX0_comes_20 ?_
  refine W.val (y := eN (w.1 (pSp d v r))) (by exact h4) ?_
  refine e_ge (tgt := 29) F (by omega) dX0_comes_21 (by decide) (fun c_21 => ?_) (fun c_21 => ?_)
  · refine lv_aload_n F.x F.b dX0_comes_29 rfl (lv_at hl 1 rfl) ?_
    refine c_getr F I 4 (by decide) q128 dX0_comes_30 ?_
    refine lv_iload F.x F.b dX0_comes_33 (lv_at hl 0 rfl) ?_
    refine c_ld (v := ((S.2 4) (pSp d v r))) F I 4 (by decide) (show pSp d v r < 48 by omega) rfl dX0_comes_35 ?_
    refine lv_iload F.x F.b dX0_comes_36 (lv_at hl 5 rfl) ?_
    refine g_min (x := ((S.2 4) (pSp d v r))) (y := (nI (x))) F hl.1 q316 ⟨Nat.le_of_ble_eq_true rfl, Nat.le_of_ble_eq_true rfl⟩ (Nat.le_of_ble_eq_true rfl) ⟨by first | exact Nat.le_refl _ | decide, by first | exact Nat.le_refl _ | decide⟩ dX0_comes_38 ?_
    refine c_st F I 4 (by decide) (show pSp d v r < 48 by omega) dX0_comes_41 (fun H locs (I : Iw G A s (cW G o q (S.1, va_up S.2 4 (upd (S.2 4) (pSp d v r) ((if (nI (x)) < ((S.2 4) (pSp d v r)) then (nI (x)) else ((S.2 4) (pSp d v r)))))) Y) H locs) => ?_)
    exact g_vret (u := (S.1, va_up S.2 4 (upd (S.2 4) (pSp d v r) ((if (nI (x)) < ((S.2 4) (pSp d v r)) then (nI (x)) else ((S.2 4) (pSp d v r))))))) F I (by exact ⟨⟨rfl, rfl, rfl, rfl⟩, cTb_cm hT hw hv hr hx hd (by first | exact (if_pos (by rw [h4, c_21]; rfl)).symm | exact (if_neg (by rw [h4]; exact fun z => c_21 ((eN_iff (by omega)).mp z))).symm)⟩) dX0_comes_42 (by first | exact Nat.le_refl _ | decide) (by first | exact Nat.le_refl _ | decide)
  · refine lv_iload F.x F.b dX0_comes_24 (lv_at hl 5 rfl) ?_
    refine lv_goto (tgt := 41) F.x F.b dX0_comes_26 (by decide) ?_
    refine c_st F I 4 (by decide) (show pSp d v r < 48 by omega) dX0_comes_41 (fun H locs (I : Iw G A s (cW G o q (S.1, va_up S.2 4 (upd (S.2 4) (pSp d v r) (nI (x)))) Y) H locs) => ?_)
    exact g_vret (u := (S.1, va_up S.2 4 (upd (S.2 4) (pSp d v r) (nI (x))))) F I (by exact ⟨⟨rfl, rfl, rfl, rfl⟩, cTb_cm hT hw hv hr hx hd (by first | exact (if_pos (by rw [h4, c_21]; rfl)).symm | exact (if_neg (by rw [h4]; exact fun z => c_21 ((eN_iff (by omega)).mp z))).symm)⟩) dX0_comes_42 (by first | exact Nat.le_refl _ | decide) (by first | exact Nat.le_refl _ | decide)

theorem hd_ct_goFrom : yX0_goFrom.cls ≠ "java/lang/invoke/MethodHandle" ∧ yX0_goFrom.cls ≠ "java/lang/invoke/VarHandle" ∧ (parseMethodDescriptor yX0_goFrom.desc).map (fun d => d.parameters.length) = some 3 := by decide +kernel
set_option maxHeartbeats 4000000 in
theorem ct_goFrom (l : Launch) (G : gG) (o : Nat) (q : Nat → Nat) (S : MS) (Y : va_W)  (d : Nat) (v : Nat) (r : Nat) (L : LD) (ms : Nat) (w : WH) (hL : LOk L) (hS : cLs S L) (hYp : cYp G o q Y L ms) (hT : cTb S w) (hw : wOk w) (hx : w.1 (pSp d v r) ≠ 99) (hd : d < 8) (hv : v < 3) (hr : r < 2) : gMv l yX0_goFrom cX0_goFrom 8 none ({ frames := 3, cells := 0, slots := 0, locals := 64 } : Room) G [.ref o, .int (nI (d)), .int (nI (v)), .int (nI (r))] (cW G o q S Y) (fun S' => cW G o q S' Y) (fun S' => cKeep S S' ∧ cTb S' (pGo L ms w d v r)) := by
  refine gMv_of (by decide) (Nat.le_of_ble_eq_true rfl) ?_
  intro p e s m below meth c ls A F I hl
  have hl : lv_has ls 8 [(0, .ref (o)), (1, .int (nI (d))), (2, .int (nI (v))), (3, .int (nI (r)))] := hl
  have hL5 := hL.1
  have hS0 := hS
  obtain ⟨el, hYl, hYr⟩ := id hYp
  have hk := pSp_lt hd hv hr
  have hb := hw.1 d v r hd hv hr
  have hr31 : v < 2 ^ 31 := by omega
  refine lv_aload_n F.x F.b dX0_goFrom_0 rfl (lv_at hl 0 rfl) ?_
  refine c_getr F I 4 (by decide) q128 dX0_goFrom_1 ?_
  refine lv_iload_n F.x F.b dX0_goFrom_4 rfl (lv_at hl 1 rfl) ?_
  refine lv_iload_n F.x F.b dX0_goFrom_5 rfl (lv_at hl 2 rfl) ?_
  refine lv_iload_n F.x F.b dX0_goFrom_6 rfl (lv_at hl 3 rfl) ?_
  refine g_calli I (g_runS (n := 3) (As := [.int (nI (d)), .int (nI (v)), .int (nI (r))]) (rest := [.ref (q 4)]) F I (ct_placeOf l G _ (d) (v) (r)   _) q313 q314 q52 q315 hd_ct_placeOf ⟨Nat.le_of_ble_eq_true rfl, Nat.le_of_ble_eq_true rfl⟩ rfl rfl hl.1 rfl (lv_room (Nat.le_of_ble_eq_true rfl)) dX0_goFrom_7 ⟨by first | exact Nat.le_refl _ | decide, by first | exact Nat.le_refl _ | decide⟩) (fun r u_ H locs hp I => ?_)
  obtain rfl := hp
  refine c_ld (v := ((S.2 4) (pSp d v r))) F I 4 (by decide) (show pSp d v r < 48 by omega) rfl dX0_goFrom_10 ?_
  refine W.val (y := nI (w.1 (pSp d v r))) (by exact (hT.1 _ hk).trans (eN_i hx)) ?_
  refine lv_istore (lv' := [(4, .int (nI (w.1 (pSp d v r)))), (0, .ref (o)), (1, .int (nI (d))), (2, .int (nI (v))), (3, .int (nI (r)))]) F.x F.b dX0_goFrom_11 hl (by decide) rfl (fun ls hl => ?_)
  refine lv_iload_n F.x F.b dX0_goFrom_13 rfl (lv_at hl 2 rfl) ?_
  refine lv_bipush (v := nI (7)) F.x F.b dX0_goFrom_14 (by decide) ?_
  refine W_cut (α := Nat) (cells := 0) (slots := 0) 32 (fun _ => []) (fun _ H locs ls => ∃ (S1 : MS), (cKeep S S1) ∧ (cTb S1 ((pCm w.1 (d + 1) v r (w.1 (pSp d v r) + 1)), w.2)) ∧ Iw G A s (cW G o q S1 Y) H locs ∧ lv_has ls 8 [(0, .ref (o)), (1, .int (nI (d))), (2, .int (nI (v))), (3, .int (nI (r))), (4, .int (nI (w.1 (pSp d v r))))]) (fun J32 => ?_) ?_
  · refine n_icmp_ge (tgt := 32) F (by omega) (by omega) dX0_goFrom_16 (by decide) (fun c_16 => ?_) (fun c_16 => ?_)
    · exact J32 0 _ _ _ ⟨S, by first | exact hq29.1 | exact cKeep.rf, by first | exact hq29.2 | exact mTb_cm0 hT (by omega), I, lv_sub hl [1, 2, 3, 4, 0] rfl⟩
    · refine lv_aload_n F.x F.b dX0_goFrom_19 rfl (lv_at hl 1 rfl) ?_
      refine lv_iload_n F.x F.b dX0_goFrom_20 rfl (lv_at hl 2 rfl) ?_
      refine lv_iconst (v := nI (1)) F.x F.b dX0_goFrom_21 (by decide) ?_
      refine n_iadd F dX0_goFrom_22 ?_
      refine lv_iload_n F.x F.b dX0_goFrom_23 rfl (lv_at hl 3 rfl) ?_
      refine lv_iload_n F.x F.b dX0_goFrom_24 rfl (lv_at hl 4 rfl) ?_
      refine lv_iload F.x F.b dX0_goFrom_25 (lv_at hl 0 rfl) ?_
      refine lv_iconst (v := nI (1)) F.x F.b dX0_goFrom_27 (by decide) ?_
      refine n_iadd F dX0_goFrom_28 ?_
      refine g_callv I (g_runV (n := 4) (ci := 1) (q0 := 0) (As := [.int (nI ((d + 1))), .int (nI (v)), .int (nI (r)), .int (nI ((w.1 (pSp d v r) + 1)))]) (rest := []) F I (ct_comes l G o q (S) Y ((d + 1)) (v) (r) ((w.1 (pSp d v r) + 1)) w (by exact hT) (by exact hw.1) (by omega) (by omega) (by omega) (by omega) _) q309 q311 qs4 q52 q312 ⟨rfl, hd_ct_comes⟩ ⟨Nat.le_of_ble_eq_true rfl, Nat.le_of_ble_eq_true rfl⟩ rfl rfl rfl rfl hl.1 rfl (lv_room (Nat.le_of_ble_eq_true rfl)) dX0_goFrom_29 ⟨by first | exact Nat.le_refl _ | decide, by first | exact Nat.le_refl _ | decide⟩) (fun Z29 H locs hp I => ?_)
      have hq29 := hp
      exact J32 0 _ _ _ ⟨Z29, by first | exact hq29.1 | exact cKeep.rf, by first | exact hq29.2 | exact mTb_cm0 hT (by omega), I, lv_sub hl [1, 2, 3, 4, 0] rfl⟩
  · intro _ H locs ls hJ
    obtain ⟨S1, hk1, hT1, I, hl⟩ := hJ
    refine lv_iconst (v := nI (0)) F.x F.b dX0_goFrom_32 (by decide) ?_
    refine lv_istore (lv' := [(5, .int (nI (0))), (0, .ref (o)), (1, .int (nI (d))), (2, .int (nI (v))), (3, .int (nI (r))), (4, .int (nI (w.1 (pSp d v r))))]) F.x F.b dX0_goFrom_33 hl (by decide) rfl (fun ls hl => ?_)
    refine W_ind 35 (fun _ => []) (fun n_J => n_J) (fun n_J H locs ls => ∃ (p : Nat) (S1 : MS), n_J = L 5 0 - p ∧ (p ≤ L 5 0) ∧ (cKeep S S1) ∧ (cTb S1 (pPs L ms d v r (w.1 (pSp d v r)) (pCm w.1 (d + 1) v r (w.1 (pSp d v r) + 1)) p, w.2)) ∧  Iw G A s (cW G o q S1 Y) H locs ∧ lv_has ls 8 [(0, .ref (o)), (1, .int (nI (d))), (2, .int (nI (v))), (3, .int (nI (r))), (4, .int (nI (w.1 (pSp d v r)))), (5, .int (nI (p)))]) ?_ _ ⟨0, S1, rfl, by omega, by exact hk1, by exact hT1, I, lv_sub hl [1, 2, 3, 4, 5, 0] rfl⟩
    intro n35 H locs ls hJ ih35
    obtain ⟨p, S1, hn35, hp, hk1, hT1, I, hl⟩ := hJ
    have hS := cLs_keep hS0 hk1
    refine lv_iload F.x F.b dX0_goFrom_35 (lv_at hl 5 rfl) ?_
    refine lv_aload_n F.x F.b dX0_goFrom_37 rfl (lv_at hl 0 rfl) ?_
    refine c_getr F I 3 (by decide) q127 dX0_goFrom_38 ?_
    refine c_lsize (fd := 3) (rest := [.int (nI (p))]) F I hYl hl.1 (Nat.le_of_ble_eq_true rfl) ⟨Nat.le_of_ble_eq_true rfl, Nat.le_of_ble_eq_true rfl⟩ ⟨by first | exact Nat.le_refl _ | decide, by first | exact Nat.le_refl _ | decide⟩ q177 dX0_goFrom_41 (fun H locs I => ?_)
    refine n_icmp_ge (tgt := 121) F (by omega) (by omega) dX0_goFrom_46 (by decide) (fun c_46 => ?_) (fun c_46 => ?_)
    · refine lv_iload_n F.x F.b dX0_goFrom_121 rfl (lv_at hl 3 rfl) ?_
      refine lv_iconst (v := nI (1)) F.x F.b dX0_goFrom_122 (by decide) ?_
      refine W_cut (α := Bool) (cells := 0) (slots := 0) 149 (fun bb => [.int (bI (bb))]) (fun bb H locs ls => ∃ (S3 : MS), (cKeep S S3) ∧ (cTb S3 (pPs L ms d v r (w.1 (pSp d v r)) (pCm w.1 (d + 1) v r (w.1 (pSp d v r) + 1)) p, w.2)) ∧ (bb = decide (r = 1 ∧ v = 2 ∧ pGv L 2 d = true)) ∧ Iw G A s (cW G o q S3 Y) H locs ∧ lv_has ls 8 [(0, .ref (o)), (1, .int (nI (d))), (2, .int (nI (v))), (3, .int (nI (r))), (4, .int (nI (w.1 (pSp d v r))))]) (fun J149 => ?_) ?_
      · refine n_icmp_ne (tgt := 148) F (by omega) (by omega) dX0_goFrom_123 (by decide) (fun c_123 => ?_) (fun c_123 => ?_)
        · refine lv_iconst (v := nI (0)) F.x F.b dX0_goFrom_148 (by decide) ?_
          exact J149 (false) _ _ _ ⟨S1, by exact hk1, by exact hT1, by simp_all, I, lv_sub hl [0, 1, 2, 3, 4] rfl⟩
        · refine lv_iload_n F.x F.b dX0_goFrom_126 rfl (lv_at hl 2 rfl) ?_
          refine lv_iconst (v := nI (2)) F.x F.b dX0_goFrom_127 (by decide) ?_
          refine n_icmp_ne (tgt := 148) F (by omega) (by omega) dX0_goFrom_128 (by decide) (fun c_128 => ?_) (fun c_128 => ?_)
          · refine lv_iconst (v := nI (0)) F.x F.b dX0_goFrom_148 (by decide) ?_
            exact J149 (false) _ _ _ ⟨S1, by exact hk1, by exact hT1, by simp_all, I, lv_sub hl [0, 1, 2, 3, 4] rfl⟩
          · refine lv_aload_n F.x F.b dX0_goFrom_131 rfl (lv_at hl 0 rfl) ?_
            refine c_getr F I 2 (by decide) q126 dX0_goFrom_132 ?_
            refine lv_iconst (v := nI (2)) F.x F.b dX0_goFrom_135 (by decide) ?_
            refine c_ld (v := ((S1.2 2) (2))) F I 2 (by decide) (show 2 < 3 by omega) rfl dX0_goFrom_136 ?_
            refine lv_iload_n F.x F.b dX0_goFrom_137 rfl (lv_at hl 1 rfl) ?_
            refine g_calli I (g_runS (n := 2) (As := [.int (((S1.2 2) (2))), .int (nI (d))]) (rest := []) F I (ct_isIn l G _ (((S1.2 2) (2))) (d)   _) q306 q307 q52 q308 hd_ct_isIn ⟨Nat.le_of_ble_eq_true rfl, Nat.le_of_ble_eq_true rfl⟩ rfl rfl hl.1 rfl (lv_room (Nat.le_of_ble_eq_true rfl)) dX0_goFrom_138 ⟨by first | exact Nat.le_refl _ | decide, by first | exact Nat.le_refl _ | decide⟩) (fun r u_ H locs hp I => ?_)
            obtain rfl := hp
            refine W.val (y := bI (pGv L 2 d)) (by exact congrArg bI (cGv hS hL (by omega) hd)) ?_
            refine z_eq (tgt := 148) F dX0_goFrom_141 (by decide) (fun c_141 => ?_) (fun c_141 => ?_)
            · refine lv_iconst (v := nI (0)) F.x F.b dX0_goFrom_148 (by decide) ?_
              exact J149 (false) _ _ _ ⟨S1, by exact hk1, by exact hT1, by simp_all, I, lv_sub hl [0, 1, 2, 3, 4] rfl⟩
            · refine lv_iconst (v := nI (1)) F.x F.b dX0_goFrom_144 (by decide) ?_
              refine lv_goto (tgt := 149) F.x F.b dX0_goFrom_145 (by decide) ?_
              exact J149 (true) _ _ _ ⟨S1, by exact hk1, by exact hT1, by simp_all, I, lv_sub hl [0, 1, 2, 3, 4] rfl⟩
      · intro bb H locs ls hJ
        obtain ⟨S3, hk3, hT3, hbb, I, hl⟩ := hJ
        refine lv_istore (lv' := [(5, .int (bI (bb))), (0, .ref (o)), (1, .int (nI (d))), (2, .int (nI (v))), (3, .int (nI (r))), (4, .int (nI (w.1 (pSp d v r))))]) F.x F.b dX0_goFrom_149 hl (by decide) rfl (fun ls hl => ?_)
        refine lv_aload_n F.x F.b dX0_goFrom_151 rfl (lv_at hl 1 rfl) ?_
        refine lv_iload F.x F.b dX0_goFrom_152 (lv_at hl 0 rfl) ?_
        refine z_eq (tgt := 168) F dX0_goFrom_154 (by decide) (fun c_154 => ?_) (fun c_154 => ?_)
        · refine lv_aload_n F.x F.b dX0_goFrom_168 rfl (lv_at hl 1 rfl) ?_
          refine c_get (v := (S3.1 5)) F I 5 (by decide) rfl q129 dX0_goFrom_169 ?_
          refine c_put F I 5 (by decide) q129 dX0_goFrom_172 (fun H locs (I : Iw G A s (cW G o q (va_up S3.1 5 ((S3.1 5)), S3.2) Y) H locs) => ?_)
          refine lv_aload_n F.x F.b dX0_goFrom_175 rfl (lv_at hl 1 rfl) ?_
          refine lv_iload F.x F.b dX0_goFrom_176 (lv_at hl 0 rfl) ?_
          refine z_eq (tgt := 202) F dX0_goFrom_178 (by decide) (fun c_178 => ?_) (fun c_178 => absurd c_178 (by rw [c_154]; decide))
          refine lv_aload_n F.x F.b dX0_goFrom_202 rfl (lv_at hl 1 rfl) ?_
          refine c_get (v := (S3.1 6)) F I 6 (by decide) rfl q130 dX0_goFrom_203 ?_
          refine c_put F I 6 (by decide) q130 dX0_goFrom_206 (fun H locs (I : Iw G A s (cW G o q (va_up (va_up S3.1 5 ((S3.1 5))) 6 ((S3.1 6)), S3.2) Y) H locs) => ?_)
          exact g_vret (u := (va_up (va_up S3.1 5 ((S3.1 5))) 6 ((S3.1 6)), S3.2)) F I (by exact ⟨hk3.tr (show _ from ⟨rfl, rfl, rfl, rfl⟩), go_end hx (show p = L 5 0 by omega) (by first | exact cdn_no (by rw [hbb] at c_154; simpa using c_154) hT3 | exact cdn_yes (by rw [hbb] at c_154; simpa using c_154) hw hd (by omega) hT3 (by first | rw [if_pos (Int32.not_le.mp c_161)] | rw [if_neg (Int32.not_lt.mpr c_161)]) (by first | rw [if_pos c_185] | rw [if_neg c_185, if_pos (Int32.not_le.mp c_194)] | rw [if_neg c_185, if_neg (Int32.not_lt.mpr c_194)]))⟩) dX0_goFrom_209 (by first | exact Nat.le_refl _ | decide) (by first | exact Nat.le_refl _ | decide)
        · refine lv_aload_n F.x F.b dX0_goFrom_157 rfl (lv_at hl 1 rfl) ?_
          refine c_get (v := (S3.1 5)) F I 5 (by decide) rfl q129 dX0_goFrom_158 ?_
          refine lv_if_ge (x := (S3.1 5)) (tgt := 168) F.x F.b dX0_goFrom_161 (by decide) (fun c_161 => ?_) (fun c_161 => ?_)
          · refine lv_aload_n F.x F.b dX0_goFrom_168 rfl (lv_at hl 1 rfl) ?_
            refine c_get (v := (S3.1 5)) F I 5 (by decide) rfl q129 dX0_goFrom_169 ?_
            refine c_put F I 5 (by decide) q129 dX0_goFrom_172 (fun H locs (I : Iw G A s (cW G o q (va_up S3.1 5 ((S3.1 5)), S3.2) Y) H locs) => ?_)
            refine lv_aload_n F.x F.b dX0_goFrom_175 rfl (lv_at hl 1 rfl) ?_
            refine lv_iload F.x F.b dX0_goFrom_176 (lv_at hl 0 rfl) ?_
            refine z_eq (tgt := 202) F dX0_goFrom_178 (by decide) (fun c_178 => absurd c_178 (by rw [c_154]; decide)) (fun c_178 => ?_)
            refine lv_aload_n F.x F.b dX0_goFrom_181 rfl (lv_at hl 1 rfl) ?_
            refine c_get (v := (S3.1 6)) F I 6 (by decide) rfl q130 dX0_goFrom_182 ?_
            refine lv_if_lt (x := (S3.1 6)) (tgt := 197) F.x F.b dX0_goFrom_185 (by decide) (fun c_185 => ?_) (fun c_185 => ?_)
            · refine lv_iload F.x F.b dX0_goFrom_197 (lv_at hl 5 rfl) ?_
              refine lv_goto (tgt := 206) F.x F.b dX0_goFrom_199 (by decide) ?_
              refine c_put F I 6 (by decide) q130 dX0_goFrom_206 (fun H locs (I : Iw G A s (cW G o q (va_up (va_up S3.1 5 ((S3.1 5))) 6 ((nI (w.1 (pSp d v r)))), S3.2) Y) H locs) => ?_)
              exact g_vret (u := (va_up (va_up S3.1 5 ((S3.1 5))) 6 ((nI (w.1 (pSp d v r)))), S3.2)) F I (by exact ⟨hk3.tr (show _ from ⟨rfl, rfl, rfl, rfl⟩), go_end hx (show p = L 5 0 by omega) (by first | exact cdn_no (by rw [hbb] at c_154; simpa using c_154) hT3 | exact cdn_yes (by rw [hbb] at c_154; simpa using c_154) hw hd (by omega) hT3 (by first | rw [if_pos (Int32.not_le.mp c_161)] | rw [if_neg (Int32.not_lt.mpr c_161)]) (by first | rw [if_pos c_185] | rw [if_neg c_185, if_pos (Int32.not_le.mp c_194)] | rw [if_neg c_185, if_neg (Int32.not_lt.mpr c_194)]))⟩) dX0_goFrom_209 (by first | exact Nat.le_refl _ | decide) (by first | exact Nat.le_refl _ | decide)
            · refine lv_iload F.x F.b dX0_goFrom_188 (lv_at hl 5 rfl) ?_
              refine lv_aload_n F.x F.b dX0_goFrom_190 rfl (lv_at hl 1 rfl) ?_
              refine c_get (v := (S3.1 6)) F I 6 (by decide) rfl q130 dX0_goFrom_191 ?_
              refine lv_icmp_ge (x := (nI (w.1 (pSp d v r)))) (y := (S3.1 6)) (tgt := 202) F.x F.b dX0_goFrom_194 (by decide) (fun c_194 => ?_) (fun c_194 => ?_)
              · refine lv_aload_n F.x F.b dX0_goFrom_202 rfl (lv_at hl 1 rfl) ?_
                refine c_get (v := (S3.1 6)) F I 6 (by decide) rfl q130 dX0_goFrom_203 ?_
                refine c_put F I 6 (by decide) q130 dX0_goFrom_206 (fun H locs (I : Iw G A s (cW G o q (va_up (va_up S3.1 5 ((S3.1 5))) 6 ((S3.1 6)), S3.2) Y) H locs) => ?_)
                exact g_vret (u := (va_up (va_up S3.1 5 ((S3.1 5))) 6 ((S3.1 6)), S3.2)) F I (by exact ⟨hk3.tr (show _ from ⟨rfl, rfl, rfl, rfl⟩), go_end hx (show p = L 5 0 by omega) (by first | exact cdn_no (by rw [hbb] at c_154; simpa using c_154) hT3 | exact cdn_yes (by rw [hbb] at c_154; simpa using c_154) hw hd (by omega) hT3 (by first | rw [if_pos (Int32.not_le.mp c_161)] | rw [if_neg (Int32.not_lt.mpr c_161)]) (by first | rw [if_pos c_185] | rw [if_neg c_185, if_pos (Int32.not_le.mp c_194)] | rw [if_neg c_185, if_neg (Int32.not_lt.mpr c_194)]))⟩) dX0_goFrom_209 (by first | exact Nat.le_refl _ | decide) (by first | exact Nat.le_refl _ | decide)
              · refine lv_iload F.x F.b dX0_goFrom_197 (lv_at hl 5 rfl) ?_
                refine lv_goto (tgt := 206) F.x F.b dX0_goFrom_199 (by decide) ?_
                refine c_put F I 6 (by decide) q130 dX0_goFrom_206 (fun H locs (I : Iw G A s (cW G o q (va_up (va_up S3.1 5 ((S3.1 5))) 6 ((nI (w.1 (pSp d v r)))), S3.2) Y) H locs) => ?_)
                exact g_vret (u := (va_up (va_up S3.1 5 ((S3.1 5))) 6 ((nI (w.1 (pSp d v r)))), S3.2)) F I (by exact ⟨hk3.tr (show _ from ⟨rfl, rfl, rfl, rfl⟩), go_end hx (show p = L 5 0 by omega) (by first | exact cdn_no (by rw [hbb] at c_154; simpa using c_154) hT3 | exact cdn_yes (by rw [hbb] at c_154; simpa using c_154) hw hd (by omega) hT3 (by first | rw [if_pos (Int32.not_le.mp c_161)] | rw [if_neg (Int32.not_lt.mpr c_161)]) (by first | rw [if_pos c_185] | rw [if_neg c_185, if_pos (Int32.not_le.mp c_194)] | rw [if_neg c_185, if_neg (Int32.not_lt.mpr c_194)]))⟩) dX0_goFrom_209 (by first | exact Nat.le_refl _ | decide) (by first | exact Nat.le_refl _ | decide)
          · refine lv_iload_n F.x F.b dX0_goFrom_164 rfl (lv_at hl 2 rfl) ?_
            refine lv_goto (tgt := 172) F.x F.b dX0_goFrom_165 (by decide) ?_
            refine c_put F I 5 (by decide) q129 dX0_goFrom_172 (fun H locs (I : Iw G A s (cW G o q (va_up S3.1 5 ((nI (d))), S3.2) Y) H locs) => ?_)
            refine lv_aload_n F.x F.b dX0_goFrom_175 rfl (lv_at hl 1 rfl) ?_
            refine lv_iload F.x F.b dX0_goFrom_176 (lv_at hl 0 rfl) ?_
            refine z_eq (tgt := 202) F dX0_goFrom_178 (by decide) (fun c_178 => absurd c_178 (by rw [c_154]; decide)) (fun c_178 => ?_)
            refine lv_aload_n F.x F.b dX0_goFrom_181 rfl (lv_at hl 1 rfl) ?_
            refine c_get (v := (S3.1 6)) F I 6 (by decide) rfl q130 dX0_goFrom_182 ?_
            refine lv_if_lt (x := (S3.1 6)) (tgt := 197) F.x F.b dX0_goFrom_185 (by decide) (fun c_185 => ?_) (fun c_185 => ?_)
            · refine lv_iload F.x F.b dX0_goFrom_197 (lv_at hl 5 rfl) ?_
              refine lv_goto (tgt := 206) F.x F.b dX0_goFrom_199 (by decide) ?_
              refine c_put F I 6 (by decide) q130 dX0_goFrom_206 (fun H locs (I : Iw G A s (cW G o q (va_up (va_up S3.1 5 ((nI (d)))) 6 ((nI (w.1 (pSp d v r)))), S3.2) Y) H locs) => ?_)
              exact g_vret (u := (va_up (va_up S3.1 5 ((nI (d)))) 6 ((nI (w.1 (pSp d v r)))), S3.2)) F I (by exact ⟨hk3.tr (show _ from ⟨rfl, rfl, rfl, rfl⟩), go_end hx (show p = L 5 0 by omega) (by first | exact cdn_no (by rw [hbb] at c_154; simpa using c_154) hT3 | exact cdn_yes (by rw [hbb] at c_154; simpa using c_154) hw hd (by omega) hT3 (by first | rw [if_pos (Int32.not_le.mp c_161)] | rw [if_neg (Int32.not_lt.mpr c_161)]) (by first | rw [if_pos c_185] | rw [if_neg c_185, if_pos (Int32.not_le.mp c_194)] | rw [if_neg c_185, if_neg (Int32.not_lt.mpr c_194)]))⟩) dX0_goFrom_209 (by first | exact Nat.le_refl _ | decide) (by first | exact Nat.le_refl _ | decide)
            · refine lv_iload F.x F.b dX0_goFrom_188 (lv_at hl 5 rfl) ?_
              refine lv_aload_n F.x F.b dX0_goFrom_190 rfl (lv_at hl 1 rfl) ?_
              refine c_get (v := (S3.1 6)) F I 6 (by decide) rfl q130 dX0_goFrom_191 ?_
              refine lv_icmp_ge (x := (nI (w.1 (pSp d v r)))) (y := (S3.1 6)) (tgt := 202) F.x F.b dX0_goFrom_194 (by decide) (fun c_194 => ?_) (fun c_194 => ?_)
              · refine lv_aload_n F.x F.b dX0_goFrom_202 rfl (lv_at hl 1 rfl) ?_
                refine c_get (v := (S3.1 6)) F I 6 (by decide) rfl q130 dX0_goFrom_203 ?_
                refine c_put F I 6 (by decide) q130 dX0_goFrom_206 (fun H locs (I : Iw G A s (cW G o q (va_up (va_up S3.1 5 ((nI (d)))) 6 ((S3.1 6)), S3.2) Y) H locs) => ?_)
                exact g_vret (u := (va_up (va_up S3.1 5 ((nI (d)))) 6 ((S3.1 6)), S3.2)) F I (by exact ⟨hk3.tr (show _ from ⟨rfl, rfl, rfl, rfl⟩), go_end hx (show p = L 5 0 by omega) (by first | exact cdn_no (by rw [hbb] at c_154; simpa using c_154) hT3 | exact cdn_yes (by rw [hbb] at c_154; simpa using c_154) hw hd (by omega) hT3 (by first | rw [if_pos (Int32.not_le.mp c_161)] | rw [if_neg (Int32.not_lt.mpr c_161)]) (by first | rw [if_pos c_185] | rw [if_neg c_185, if_pos (Int32.not_le.mp c_194)] | rw [if_neg c_185, if_neg (Int32.not_lt.mpr c_194)]))⟩) dX0_goFrom_209 (by first | exact Nat.le_refl _ | decide) (by first | exact Nat.le_refl _ | decide)
              · refine lv_iload F.x F.b dX0_goFrom_197 (lv_at hl 5 rfl) ?_
                refine lv_goto (tgt := 206) F.x F.b dX0_goFrom_199 (by decide) ?_
                refine c_put F I 6 (by decide) q130 dX0_goFrom_206 (fun H locs (I : Iw G A s (cW G o q (va_up (va_up S3.1 5 ((nI (d)))) 6 ((nI (w.1 (pSp d v r)))), S3.2) Y) H locs) => ?_)
                exact g_vret (u := (va_up (va_up S3.1 5 ((nI (d)))) 6 ((nI (w.1 (pSp d v r)))), S3.2)) F I (by exact ⟨hk3.tr (show _ from ⟨rfl, rfl, rfl, rfl⟩), go_end hx (show p = L 5 0 by omega) (by first | exact cdn_no (by rw [hbb] at c_154; simpa using c_154) hT3 | exact cdn_yes (by rw [hbb] at c_154; simpa using c_154) hw hd (by omega) hT3 (by first | rw [if_pos (Int32.not_le.mp c_161)] | rw [if_neg (Int32.not_lt.mpr c_161)]) (by first | rw [if_pos c_185] | rw [if_neg c_185, if_pos (Int32.not_le.mp c_194)] | rw [if_neg c_185, if_neg (Int32.not_lt.mpr c_194)]))⟩) dX0_goFrom_209 (by first | exact Nat.le_refl _ | decide) (by first | exact Nat.le_refl _ | decide)
    · have hov := pOv_in (v := v) hL (show p < L 5 0 by omega)
      have htk := pTk_in hL (show p < L 5 0 by omega)
      refine lv_aload_n F.x F.b dX0_goFrom_49 rfl (lv_at hl 0 rfl) ?_
      refine c_getr F I 3 (by decide) q127 dX0_goFrom_50 ?_
      refine lv_iload F.x F.b dX0_goFrom_53 (lv_at hl 5 rfl) ?_
      obtain ⟨el55, f55, pa55, kp55, hYl55, hYa55, hf55, hkp55⟩ := hYp.get (j := p) (by omega)
      obtain ⟨lj55_1, lj55_2, lj55_3, lj55_4, lj55_5, lj55_6⟩ := hL.2.1 (p) (by omega)
      refine c_lget (fd := 3) (rest := []) F I hYl55 hYa55 (by omega) (by omega) hf55 hl.1 (Nat.le_of_ble_eq_true rfl) ⟨Nat.le_of_ble_eq_true rfl, Nat.le_of_ble_eq_true rfl⟩ ⟨by first | exact Nat.le_refl _ | decide, by first | exact Nat.le_refl _ | decide⟩ q190 dX0_goFrom_55 (fun H locs I => ?_)
      refine c_pcast F I lj55_1 hkp55 q208 dX0_goFrom_60 ?_
      refine lv_astore (lv' := [(6, .ref (pa55)), (0, .ref (o)), (1, .int (nI (d))), (2, .int (nI (v))), (3, .int (nI (r))), (4, .int (nI (w.1 (pSp d v r)))), (5, .int (nI (p)))]) F.x F.b dX0_goFrom_63 hl (by decide) rfl (fun ls hl => ?_)
      refine lv_aload F.x F.b dX0_goFrom_65 (lv_at hl 0 rfl) ?_
      refine lv_iload_n F.x F.b dX0_goFrom_67 rfl (lv_at hl 3 rfl) ?_
      refine pr_beyond (rest := []) F I lj55_1 hkp55 (v) (by omega) (by omega) (by omega) hl.1 (Nat.le_of_ble_eq_true rfl) ⟨Nat.le_of_ble_eq_true rfl, Nat.le_of_ble_eq_true rfl⟩ ⟨by first | exact Nat.le_refl _ | decide, by first | exact Nat.le_refl _ | decide⟩ q323 dX0_goFrom_68 (fun H locs I => ?_)
      refine W.val (y := eN (pOv L (p) (v))) (by rfl) ?_
      refine lv_istore (lv' := [(7, .int (eN (pOv L (p) (v)))), (6, .ref (pa55)), (0, .ref (o)), (1, .int (nI (d))), (2, .int (nI (v))), (3, .int (nI (r))), (4, .int (nI (w.1 (pSp d v r)))), (5, .int (nI (p)))]) F.x F.b dX0_goFrom_71 hl (by decide) rfl (fun ls hl => ?_)
      refine lv_iload F.x F.b dX0_goFrom_73 (lv_at hl 0 rfl) ?_
      refine e_lt (tgt := 115) F (by omega) dX0_goFrom_75 (by decide) (fun c_75 => ?_) (fun c_75 => ?_)
      · refine lv_iinc (v := nI ((p + 1))) (lv' := [(5, .int (nI ((p + 1)))), (7, .int (eN (pOv L (p) (v)))), (6, .ref (pa55)), (0, .ref (o)), (1, .int (nI (d))), (2, .int (nI (v))), (3, .int (nI (r))), (4, .int (nI (w.1 (pSp d v r))))]) F.x F.b dX0_goFrom_115 hl (k := 7) rfl (nI_1 (p)) (by decide) rfl (fun ls hl => ?_)
        refine lv_goto (tgt := 35) F.x F.b dX0_goFrom_118 (by decide) ?_
        exact ih35 _ _ _ _ (by omega) ⟨p + 1, S1, rfl, by omega, by first | exact hk1.tr hk2 | exact hk1, by first | exact ps_yes c_84 c_75 hT2 | exact ps_no (Or.inr c_75) hT1 | exact ps_no (Or.inl c_84) hT1 | exact ps_yes c_84 c_75 (mTb_cm0 hT1 (by omega)), I, lv_sub hl [3, 4, 5, 6, 7, 0] rfl⟩
      · refine lv_aload F.x F.b dX0_goFrom_78 (lv_at hl 1 rfl) ?_
        refine lv_iload_n F.x F.b dX0_goFrom_80 rfl (lv_at hl 3 rfl) ?_
        refine pr_isOpen (rest := []) F I lj55_1 hkp55 (d) (L 6 (d)) (by omega) (hS.1 _ (by omega)) (by have := hL.2.2.1 (d) (by omega); omega) (by omega) hl.1 (Nat.le_of_ble_eq_true rfl) ⟨Nat.le_of_ble_eq_true rfl, Nat.le_of_ble_eq_true rfl⟩ ⟨by first | exact Nat.le_refl _ | decide, by first | exact Nat.le_refl _ | decide⟩ q278 dX0_goFrom_81 (fun H locs I => ?_)
        refine W.val (y := bI (pOp L ms (p) (d))) (by exact congrArg bI opN_eq) ?_
        refine z_eq (tgt := 115) F dX0_goFrom_84 (by decide) (fun c_84 => ?_) (fun c_84 => ?_)
        · refine lv_iinc (v := nI ((p + 1))) (lv' := [(5, .int (nI ((p + 1)))), (7, .int (eN (pOv L (p) (v)))), (6, .ref (pa55)), (0, .ref (o)), (1, .int (nI (d))), (2, .int (nI (v))), (3, .int (nI (r))), (4, .int (nI (w.1 (pSp d v r))))]) F.x F.b dX0_goFrom_115 hl (k := 7) rfl (nI_1 (p)) (by decide) rfl (fun ls hl => ?_)
          refine lv_goto (tgt := 35) F.x F.b dX0_goFrom_118 (by decide) ?_
          exact ih35 _ _ _ _ (by omega) ⟨p + 1, S1, rfl, by omega, by first | exact hk1.tr hk2 | exact hk1, by first | exact ps_yes c_84 c_75 hT2 | exact ps_no (Or.inr c_75) hT1 | exact ps_no (Or.inl c_84) hT1 | exact ps_yes c_84 c_75 (mTb_cm0 hT1 (by omega)), I, lv_sub hl [3, 4, 5, 6, 7, 0] rfl⟩
        · refine lv_iload_n F.x F.b dX0_goFrom_87 rfl (lv_at hl 3 rfl) ?_
          refine lv_aload F.x F.b dX0_goFrom_88 (lv_at hl 1 rfl) ?_
          refine pr_lasts (rest := [.int (nI (d))]) F I lj55_1 hkp55 (by omega) hl.1 (Nat.le_of_ble_eq_true rfl) ⟨Nat.le_of_ble_eq_true rfl, Nat.le_of_ble_eq_true rfl⟩ ⟨by first | exact Nat.le_refl _ | decide, by first | exact Nat.le_refl _ | decide⟩ q220 dX0_goFrom_90 (fun H locs I => ?_)
          refine W.val (y := nI (pTk L (p))) (by rfl) ?_
          refine n_iadd F dX0_goFrom_93 ?_
          refine lv_bipush (v := nI (8)) F.x F.b dX0_goFrom_94 (by decide) ?_
          refine n_icmp_ge (tgt := 115) F (by omega) (by omega) dX0_goFrom_96 (by decide) (fun c_96 => ?_) (fun c_96 => ?_)
          · refine lv_iinc (v := nI ((p + 1))) (lv' := [(5, .int (nI ((p + 1)))), (7, .int (eN (pOv L (p) (v)))), (6, .ref (pa55)), (0, .ref (o)), (1, .int (nI (d))), (2, .int (nI (v))), (3, .int (nI (r))), (4, .int (nI (w.1 (pSp d v r))))]) F.x F.b dX0_goFrom_115 hl (k := 7) rfl (nI_1 (p)) (by decide) rfl (fun ls hl => ?_)
            refine lv_goto (tgt := 35) F.x F.b dX0_goFrom_118 (by decide) ?_
            exact ih35 _ _ _ _ (by omega) ⟨p + 1, S1, rfl, by omega, by first | exact hk1.tr hk2 | exact hk1, by first | exact ps_yes c_84 c_75 hT2 | exact ps_no (Or.inr c_75) hT1 | exact ps_no (Or.inl c_84) hT1 | exact ps_yes c_84 c_75 (mTb_cm0 hT1 (by omega)), I, lv_sub hl [3, 4, 5, 6, 7, 0] rfl⟩
          · refine lv_aload_n F.x F.b dX0_goFrom_99 rfl (lv_at hl 2 rfl) ?_
            refine lv_iload_n F.x F.b dX0_goFrom_100 rfl (lv_at hl 3 rfl) ?_
            refine lv_aload F.x F.b dX0_goFrom_101 (lv_at hl 1 rfl) ?_
            refine pr_lasts (rest := [.int (nI (d)), .ref (o)]) F I lj55_1 hkp55 (by omega) hl.1 (Nat.le_of_ble_eq_true rfl) ⟨Nat.le_of_ble_eq_true rfl, Nat.le_of_ble_eq_true rfl⟩ ⟨by first | exact Nat.le_refl _ | decide, by first | exact Nat.le_refl _ | decide⟩ q220 dX0_goFrom_103 (fun H locs I => ?_)
            refine W.val (y := nI (pTk L (p))) (by rfl) ?_
            refine n_iadd F dX0_goFrom_106 ?_
            refine lv_iload F.x F.b dX0_goFrom_107 (lv_at hl 0 rfl) ?_
            refine W.val (y := nI (pOv L p v)) (by exact eN_i c_75) ?_
            refine lv_iload_n F.x F.b dX0_goFrom_109 rfl (lv_at hl 5 rfl) ?_
            refine lv_iload F.x F.b dX0_goFrom_110 (lv_at hl 6 rfl) ?_
            refine g_callv I (g_runV (n := 4) (ci := 1) (q0 := 0) (As := [.int (nI ((d + pTk L (p)))), .int (nI (pOv L p v)), .int (nI (r)), .int (nI (w.1 (pSp d v r)))]) (rest := []) F I (ct_comes l G o q (S1) Y ((d + pTk L (p))) (pOv L p v) (r) (w.1 (pSp d v r)) (pPs L ms d v r (w.1 (pSp d v r)) (pCm w.1 (d + 1) v r (w.1 (pSp d v r) + 1)) p, w.2) (by exact hT1) (by exact tOk_ps hL (tOk_cm hw.1 hv hr (by omega)) hr (by omega) p (by omega)) (by omega) (by omega) (by omega) (by omega) _) q309 q311 qs4 q52 q312 ⟨rfl, hd_ct_comes⟩ ⟨Nat.le_of_ble_eq_true rfl, Nat.le_of_ble_eq_true rfl⟩ rfl rfl rfl rfl hl.1 rfl (lv_room (Nat.le_of_ble_eq_true rfl)) dX0_goFrom_112 ⟨by first | exact Nat.le_refl _ | decide, by first | exact Nat.le_refl _ | decide⟩) (fun Z112 H locs hp I => ?_)
            have hq112 := hp
            obtain ⟨hk2, hT2⟩ := hq112
            refine lv_iinc (v := nI ((p + 1))) (lv' := [(5, .int (nI ((p + 1)))), (7, .int (eN (pOv L (p) (v)))), (6, .ref (pa55)), (0, .ref (o)), (1, .int (nI (d))), (2, .int (nI (v))), (3, .int (nI (r))), (4, .int (nI (w.1 (pSp d v r))))]) F.x F.b dX0_goFrom_115 hl (k := 7) rfl (nI_1 (p)) (by decide) rfl (fun ls hl => ?_)
            refine lv_goto (tgt := 35) F.x F.b dX0_goFrom_118 (by decide) ?_
            exact ih35 _ _ _ _ (by omega) ⟨p + 1, Z112, rfl, by omega, by first | exact hk1.tr hk2 | exact hk1, by first | exact ps_yes c_84 c_75 hT2 | exact ps_no (Or.inr c_75) hT1 | exact ps_no (Or.inl c_84) hT1 | exact ps_yes c_84 c_75 (mTb_cm0 hT1 (by omega)), I, lv_sub hl [3, 4, 5, 6, 7, 0] rfl⟩
