/-! THE COMPONENT, public: land and wheels -/
set_option maxRecDepth 100000
theorem dec_ok (t : Nat) : nI (t + 1) - 1 + (-1) = nI t - 1 := by rw [nI_pred]; exact (Int32.sub_eq_add_neg _ _).symm
theorem cLs_up6 {S : MS} {L : LD} {d x : Nat} (h : cLs S L) : cLs (S.1, va_up S.2 1 (upd (S.2 1) d (nI x))) (lUp L 6 d x) := by
  refine ⟨fun d' hd' => ?_, h.2⟩
  show upd (S.2 1) d (nI x) d' = nI (va_up (L 6) d x d')
  unfold upd va_up; split
  · rfl
  · exact h.1 d' hd'
theorem cLs_up7 {S : MS} {L : LD} {d x : Nat} (h : cLs S L) : cLs (S.1, va_up S.2 2 (upd (S.2 2) d (nI x))) (lUp L 7 d x) := by
  refine ⟨h.1, fun d' hd' => ?_⟩
  show upd (S.2 2) d (nI x) d' = nI (va_up (L 7) d x d')
  unfold upd va_up; split
  · rfl
  · exact h.2 d' hd'

theorem hd_ct_ofPass : yX0_ofPass.cls ≠ "java/lang/invoke/MethodHandle" ∧ yX0_ofPass.cls ≠ "java/lang/invoke/VarHandle" ∧ (parseMethodDescriptor yX0_ofPass.desc).map (fun d => d.parameters.length) = some 2 := by decide +kernel
set_option maxHeartbeats 4000000 in
theorem ct_ofPass (l : Launch) (G : gG) (o : Nat) (q : Nat → Nat) (S : MS) (Y : va_W)  (x : Int32) (w : Int32) (L : LD) (hL : LOk L) (hS : cLs S L) (hYp : cYp G o q Y L 99) : gMi l yX0_ofPass cX0_ofPass 4 (some .int) ({ frames := 3, cells := 0, slots := 0, locals := 64 } : Room) G [.ref o, .int (x), .int (w)] (cW G o q S Y) (fun S' => cW G o q S' Y) (fun ρ S' => aOf L x w = ρ ∧ cKeep S S') := by
  refine gMi_of (by decide) (Nat.le_of_ble_eq_true rfl) ?_
  intro p e s m below meth c ls A F I hl
  have hl : lv_has ls 4 [(0, .ref (o)), (1, .int (x)), (2, .int (w))] := hl
  have hL5 := hL.1
  have hS0 := hS
  obtain ⟨el, hYl, hYr⟩ := id hYp
  refine lv_aload_n F.x F.b dX0_ofPass_0 rfl (lv_at hl 0 rfl) ?_
  refine lv_iload_n F.x F.b dX0_ofPass_1 rfl (lv_at hl 1 rfl) ?_
  refine g_calli I (g_runV (n := 1) (ci := 1) (q0 := 0) (As := [.int (x)]) (rest := []) F I (ct_noPass l G o q (S) Y (x) L 99 (by exact hL) (by exact hS) (by exact hYp) _) q172 q174 qs0 q52 q175 ⟨rfl, hd_ct_noPass⟩ ⟨Nat.le_of_ble_eq_true rfl, Nat.le_of_ble_eq_true rfl⟩ rfl rfl rfl rfl hl.1 rfl (lv_room (Nat.le_of_ble_eq_true rfl)) dX0_ofPass_2 ⟨by first | exact Nat.le_refl _ | decide, by first | exact Nat.le_refl _ | decide⟩) (fun r u_ H locs hp I => ?_)
  obtain ⟨rfl, rfl⟩ := hp
  refine z_eq (tgt := 10) F dX0_ofPass_5 (by decide) (fun c_5 => ?_) (fun c_5 => ?_)
  · obtain ⟨j, hj, rfl⟩ := pv_n hL5 (by simpa using c_5)
    have tj : (nI j).toNatClampNeg = j := nI_clamp (by omega)
    refine lv_aload_n F.x F.b dX0_ofPass_10 rfl (lv_at hl 0 rfl) ?_
    refine c_getr F I 3 (by decide) q127 dX0_ofPass_11 ?_
    refine lv_iload_n F.x F.b dX0_ofPass_14 rfl (lv_at hl 1 rfl) ?_
    obtain ⟨el15, f15, pa15, kp15, hYl15, hYa15, hf15, hkp15⟩ := hYp.get (j := j) (by omega)
    obtain ⟨lj15_1, lj15_2, lj15_3, lj15_4, lj15_5, lj15_6⟩ := hL.2.1 (j) (by omega)
    refine c_lget (fd := 3) (rest := []) F I hYl15 hYa15 (by omega) (by omega) hf15 hl.1 (Nat.le_of_ble_eq_true rfl) ⟨Nat.le_of_ble_eq_true rfl, Nat.le_of_ble_eq_true rfl⟩ ⟨by first | exact Nat.le_refl _ | decide, by first | exact Nat.le_refl _ | decide⟩ q190 dX0_ofPass_15 (fun H locs I => ?_)
    refine c_pcast F I lj15_1 hkp15 q208 dX0_ofPass_20 ?_
    refine lv_astore_n (lv' := [(3, .ref (pa15)), (0, .ref (o)), (1, .int (nI (j))), (2, .int (w))]) F.x F.b dX0_ofPass_23 rfl hl (by decide) rfl (fun ls hl => ?_)
    refine lv_iload_n F.x F.b dX0_ofPass_24 rfl (lv_at hl 3 rfl) ?_
    rcases sw_n (w) 5 (by decide) with ⟨j25, hj25, c_25⟩ | c_25
    · rcases (show j25 = 0 ∨ j25 = 1 ∨ j25 = 2 ∨ j25 = 3 ∨ j25 = 4 ∨ j25 = 5 by omega) with rfl | rfl | rfl | rfl | rfl | rfl
      · refine W.val (y := nI 0) c_25 ?_
        refine lv_tableIn (off := 39) (tgt := 64) F.x F.b dX0_ofPass_25 (by decide) (by decide) (by decide) (by decide) ?_
        refine lv_aload_n F.x F.b dX0_ofPass_64 rfl (lv_at hl 0 rfl) ?_
        refine pr_kind (rest := []) F I lj15_1 hkp15  hl.1 (Nat.le_of_ble_eq_true rfl) ⟨Nat.le_of_ble_eq_true rfl, Nat.le_of_ble_eq_true rfl⟩ ⟨by first | exact Nat.le_refl _ | decide, by first | exact Nat.le_refl _ | decide⟩ q209 dX0_ofPass_65 (fun H locs I => ?_)
        refine W.val (y := nI (L 8 (j))) (by rfl) ?_
        exact g_iret (u := S) F I (by exact ⟨by unfold aOf; rw [show pvP L (nI j) = true by simpa using c_5, tj]; rw [c_25]; rfl, cKeep.rf⟩) dX0_ofPass_68 (by first | exact Nat.le_refl _ | decide) (by first | exact Nat.le_refl _ | decide)
      · refine W.val (y := nI 1) c_25 ?_
        refine lv_tableIn (off := 44) (tgt := 69) F.x F.b dX0_ofPass_25 (by decide) (by decide) (by decide) (by decide) ?_
        refine lv_aload_n F.x F.b dX0_ofPass_69 rfl (lv_at hl 0 rfl) ?_
        refine c_pint (v := .int (nI (L 9 (j)))) F I lj15_1 hkp15 1 (by decide) rfl q499 dX0_ofPass_70 ?_
        exact g_iret (u := S) F I (by exact ⟨by unfold aOf; rw [show pvP L (nI j) = true by simpa using c_5, tj]; rw [c_25]; rfl, cKeep.rf⟩) dX0_ofPass_73 (by first | exact Nat.le_refl _ | decide) (by first | exact Nat.le_refl _ | decide)
      · refine W.val (y := nI 2) c_25 ?_
        refine lv_tableIn (off := 49) (tgt := 74) F.x F.b dX0_ofPass_25 (by decide) (by decide) (by decide) (by decide) ?_
        refine lv_aload_n F.x F.b dX0_ofPass_74 rfl (lv_at hl 0 rfl) ?_
        refine c_pint (v := .int (nI (L 10 (j)))) F I lj15_1 hkp15 2 (by decide) rfl q501 dX0_ofPass_75 ?_
        exact g_iret (u := S) F I (by exact ⟨by unfold aOf; rw [show pvP L (nI j) = true by simpa using c_5, tj]; rw [c_25]; rfl, cKeep.rf⟩) dX0_ofPass_78 (by first | exact Nat.le_refl _ | decide) (by first | exact Nat.le_refl _ | decide)
      · refine W.val (y := nI 3) c_25 ?_
        refine lv_tableIn (off := 54) (tgt := 79) F.x F.b dX0_ofPass_25 (by decide) (by decide) (by decide) (by decide) ?_
        refine lv_aload_n F.x F.b dX0_ofPass_79 rfl (lv_at hl 0 rfl) ?_
        refine c_pint (v := .int (nI (L 11 (j)))) F I lj15_1 hkp15 3 (by decide) rfl q503 dX0_ofPass_80 ?_
        exact g_iret (u := S) F I (by exact ⟨by unfold aOf; rw [show pvP L (nI j) = true by simpa using c_5, tj]; rw [c_25]; rfl, cKeep.rf⟩) dX0_ofPass_83 (by first | exact Nat.le_refl _ | decide) (by first | exact Nat.le_refl _ | decide)
      · refine W.val (y := nI 4) c_25 ?_
        refine lv_tableIn (off := 59) (tgt := 84) F.x F.b dX0_ofPass_25 (by decide) (by decide) (by decide) (by decide) ?_
        refine lv_aload_n F.x F.b dX0_ofPass_84 rfl (lv_at hl 0 rfl) ?_
        refine c_pint (v := .int (nI (L 12 (j)))) F I lj15_1 hkp15 4 (by decide) rfl q505 dX0_ofPass_85 ?_
        exact g_iret (u := S) F I (by exact ⟨by unfold aOf; rw [show pvP L (nI j) = true by simpa using c_5, tj]; rw [c_25]; rfl, cKeep.rf⟩) dX0_ofPass_88 (by first | exact Nat.le_refl _ | decide) (by first | exact Nat.le_refl _ | decide)
      · refine W.val (y := nI 5) c_25 ?_
        refine lv_tableIn (off := 64) (tgt := 89) F.x F.b dX0_ofPass_25 (by decide) (by decide) (by decide) (by decide) ?_
        refine lv_aload_n F.x F.b dX0_ofPass_89 rfl (lv_at hl 0 rfl) ?_
        refine pr_lasts (rest := []) F I lj15_1 hkp15 (by omega) hl.1 (Nat.le_of_ble_eq_true rfl) ⟨Nat.le_of_ble_eq_true rfl, Nat.le_of_ble_eq_true rfl⟩ ⟨by first | exact Nat.le_refl _ | decide, by first | exact Nat.le_refl _ | decide⟩ q220 dX0_ofPass_90 (fun H locs I => ?_)
        refine W.val (y := nI (pTk L (j))) (by rfl) ?_
        exact g_iret (u := S) F I (by exact ⟨by unfold aOf; rw [show pvP L (nI j) = true by simpa using c_5, tj]; rw [c_25]; rfl, cKeep.rf⟩) dX0_ofPass_93 (by first | exact Nat.le_refl _ | decide) (by first | exact Nat.le_refl _ | decide)
    · refine lv_tableOut (tgt := 94) F.x F.b dX0_ofPass_25 c_25 (by decide) ?_
      refine lv_bipush (v := (-2)) F.x F.b dX0_ofPass_94 (by decide) ?_
      exact g_iret (u := S) F I (by exact ⟨by unfold aOf; rw [show pvP L (nI j) = true by simpa using c_5, tj]; rw [if_pos rfl, if_neg (show ¬ w = 0 from sw_ne 0 c_25 (by decide)), if_neg (show ¬ w = 1 from sw_ne 1 c_25 (by decide)), if_neg (show ¬ w = 2 from sw_ne 2 c_25 (by decide)), if_neg (show ¬ w = 3 from sw_ne 3 c_25 (by decide)), if_neg (show ¬ w = 4 from sw_ne 4 c_25 (by decide)), if_neg (show ¬ w = 5 from sw_ne 5 c_25 (by decide))], cKeep.rf⟩) dX0_ofPass_96 (by first | exact Nat.le_refl _ | decide) (by first | exact Nat.le_refl _ | decide)
  · refine lv_iconst (v := (-1)) F.x F.b dX0_ofPass_8 (by decide) ?_
    exact g_iret (u := S) F I (by exact ⟨aOf_no (by simpa using c_5), cKeep.rf⟩) dX0_ofPass_9 (by first | exact Nat.le_refl _ | decide) (by first | exact Nat.le_refl _ | decide)

theorem hd_ct_snow : yX0_snow.cls ≠ "java/lang/invoke/MethodHandle" ∧ yX0_snow.cls ≠ "java/lang/invoke/VarHandle" ∧ (parseMethodDescriptor yX0_snow.desc).map (fun d => d.parameters.length) = some 2 := by decide +kernel
set_option maxHeartbeats 4000000 in
theorem ct_snow (l : Launch) (G : gG) (o : Nat) (q : Nat → Nat) (S : MS) (Y : va_W)  (x : Int32) (v : Int32) (L : LD) (hL : LOk L) (hS : cLs S L) (hYp : cYp G o q Y L 99) : gMi l yX0_snow cX0_snow 4 (some .int) ({ frames := 2, cells := 0, slots := 0, locals := 45 } : Room) G [.ref o, .int (x), .int (v)] (cW G o q S Y) (fun S' => cW G o q S' Y) (fun ρ S' => aSnow L x v = ρ ∧ cLs S' (sSnow L x v) ∧ cKeep (S'.1, va_up S'.2 1 (S.2 1)) S) := by
  refine gMi_of (by decide) (Nat.le_of_ble_eq_true rfl) ?_
  intro p e s m below meth c ls A F I hl
  have hl : lv_has ls 4 [(0, .ref (o)), (1, .int (x)), (2, .int (v))] := hl
  have hL5 := hL.1
  have hS0 := hS
  obtain ⟨el, hYl, hYr⟩ := id hYp
  refine lv_iload_n F.x F.b dX0_snow_0 rfl (lv_at hl 1 rfl) ?_
  refine g_calli I (g_runS (n := 1) (As := [.int (x)]) (rest := []) F I (ct_isDay l G _ (x)   _) q247 q248 q52 q249 hd_ct_isDay ⟨Nat.le_of_ble_eq_true rfl, Nat.le_of_ble_eq_true rfl⟩ rfl rfl hl.1 rfl (lv_room (Nat.le_of_ble_eq_true rfl)) dX0_snow_1 ⟨by first | exact Nat.le_refl _ | decide, by first | exact Nat.le_refl _ | decide⟩) (fun r u_ H locs hp I => ?_)
  obtain rfl := hp
  refine z_eq (tgt := 19) F dX0_snow_4 (by decide) (fun c_4 => ?_) (fun c_4 => ?_)
  · refine lv_bipush (v := (-2)) F.x F.b dX0_snow_19 (by decide) ?_
    exact g_iret (u := S) F I (by exact ⟨by simp_all [aSnow], by simp_all [sSnow, okSnow], cKeep.rf⟩) dX0_snow_21 (by first | exact Nat.le_refl _ | decide) (by first | exact Nat.le_refl _ | decide)
  · obtain ⟨j, hj, rfl⟩ := wi_n (m := 7) (by decide) c_4
    have tj : (nI j).toNatClampNeg = j := nI_clamp (by omega)
    refine lv_iload_n F.x F.b dX0_snow_7 rfl (lv_at hl 2 rfl) ?_
    refine lv_i2l (v := (v).toInt64) F.x F.b dX0_snow_8 rfl ?_
    refine lv_lconst (v := 0) F.x F.b dX0_snow_9 (by decide) ?_
    refine lv_ldc2 (v := 9) F.x F.b F.o (F.t _ q251) dX0_snow_10 ?_
    refine g_calli I (g_runS (n := 3) (As := [.long ((v).toInt64), .long (0), .long ((9))]) (rest := []) F I (ct_in l G _ ((v).toInt64) (0) ((9))   _) q186 q187 q52 q188 hd_ct_in ⟨Nat.le_of_ble_eq_true rfl, Nat.le_of_ble_eq_true rfl⟩ rfl rfl hl.1 rfl (lv_room (Nat.le_of_ble_eq_true rfl)) dX0_snow_13 ⟨by first | exact Nat.le_refl _ | decide, by first | exact Nat.le_refl _ | decide⟩) (fun r u_ H locs hp I => ?_)
    obtain rfl := hp
    refine W.val (y := bI (mWi v 0 9)) (by exact congrArg bI (inL_wi v 0 9)) ?_
    refine z_ne (tgt := 22) F dX0_snow_16 (by decide) (fun c_16 => ?_) (fun c_16 => ?_)
    · obtain ⟨i, hi, rfl⟩ := wi_n (m := 9) (by decide) c_16
      have ti : (nI i).toNatClampNeg = i := nI_clamp (by omega)
      refine lv_aload_n F.x F.b dX0_snow_22 rfl (lv_at hl 0 rfl) ?_
      refine g_calli I (g_runV (n := 0) (ci := 1) (q0 := 0) (As := []) (rest := []) F I (ct_noLand l G o q (S) Y  L 99 (by exact hL) (by exact hS) (by exact hYp) _) q252 q254 qs1 q52 q255 ⟨rfl, hd_ct_noLand⟩ ⟨Nat.le_of_ble_eq_true rfl, Nat.le_of_ble_eq_true rfl⟩ rfl rfl rfl rfl hl.1 rfl (lv_room (Nat.le_of_ble_eq_true rfl)) dX0_snow_23 ⟨by first | exact Nat.le_refl _ | decide, by first | exact Nat.le_refl _ | decide⟩) (fun r u_ H locs hp I => ?_)
      obtain ⟨rfl, rfl⟩ := hp
      refine z_eq (tgt := 32) F dX0_snow_26 (by decide) (fun c_26 => ?_) (fun c_26 => ?_)
      · refine lv_aload_n F.x F.b dX0_snow_32 rfl (lv_at hl 0 rfl) ?_
        refine c_getr F I 1 (by decide) q124 dX0_snow_33 ?_
        refine lv_iload_n F.x F.b dX0_snow_36 rfl (lv_at hl 1 rfl) ?_
        refine c_ld (v := ((S.2 1) (j))) F I 1 (by decide) (show j < 8 by omega) rfl dX0_snow_37 ?_
        refine W.val (y := nI (L 6 j)) (by exact hS.1 j (by omega)) ?_
        refine lv_istore_n (lv' := [(3, .int (nI (L 6 j))), (0, .ref (o)), (1, .int (nI (j))), (2, .int (nI (i)))]) F.x F.b dX0_snow_38 rfl hl (by decide) rfl (fun ls hl => ?_)
        refine lv_aload_n F.x F.b dX0_snow_39 rfl (lv_at hl 1 rfl) ?_
        refine c_getr F I 1 (by decide) q124 dX0_snow_40 ?_
        refine lv_iload_n F.x F.b dX0_snow_43 rfl (lv_at hl 2 rfl) ?_
        refine lv_iload_n F.x F.b dX0_snow_44 rfl (lv_at hl 3 rfl) ?_
        refine c_st F I 1 (by decide) (show j < 8 by omega) dX0_snow_45 (fun H locs (I : Iw G A s (cW G o q (S.1, va_up S.2 1 (upd (S.2 1) (j) (nI (i)))) Y) H locs) => ?_)
        refine lv_iload_n F.x F.b dX0_snow_46 rfl (lv_at hl 0 rfl) ?_
        exact g_iret (u := (S.1, va_up S.2 1 (upd (S.2 1) (j) (nI (i))))) F I (by exact ⟨by simp_all [aSnow], by rw [sSnow, if_pos (by simp_all [okSnow]), tj, ti]; exact cLs_up6 hS, by exact ⟨rfl, rfl, rfl, rfl⟩⟩) dX0_snow_47 (by first | exact Nat.le_refl _ | decide) (by first | exact Nat.le_refl _ | decide)
      · refine lv_bipush (v := (-3)) F.x F.b dX0_snow_29 (by decide) ?_
        exact g_iret (u := S) F I (by exact ⟨by simp_all [aSnow], by simp_all [sSnow, okSnow], cKeep.rf⟩) dX0_snow_31 (by first | exact Nat.le_refl _ | decide) (by first | exact Nat.le_refl _ | decide)
    · refine lv_bipush (v := (-2)) F.x F.b dX0_snow_19 (by decide) ?_
      exact g_iret (u := S) F I (by exact ⟨by simp_all [aSnow], by simp_all [sSnow, okSnow], cKeep.rf⟩) dX0_snow_21 (by first | exact Nat.le_refl _ | decide) (by first | exact Nat.le_refl _ | decide)

theorem hd_ct_give : yX0_give.cls ≠ "java/lang/invoke/MethodHandle" ∧ yX0_give.cls ≠ "java/lang/invoke/VarHandle" ∧ (parseMethodDescriptor yX0_give.desc).map (fun d => d.parameters.length) = some 2 := by decide +kernel
set_option maxHeartbeats 4000000 in
theorem ct_give (l : Launch) (G : gG) (o : Nat) (q : Nat → Nat) (S : MS) (Y : va_W)  (x : Int32) (v : Int32) (L : LD) (hL : LOk L) (hS : cLs S L) (hYp : cYp G o q Y L 99) : gMi l yX0_give cX0_give 4 (some .int) ({ frames := 2, cells := 0, slots := 0, locals := 45 } : Room) G [.ref o, .int (x), .int (v)] (cW G o q S Y) (fun S' => cW G o q S' Y) (fun ρ S' => aGive L x v = ρ ∧ cLs S' (sGive L x v) ∧ cKeep (S'.1, va_up S'.2 2 (S.2 2)) S) := by
  refine gMi_of (by decide) (Nat.le_of_ble_eq_true rfl) ?_
  intro p e s m below meth c ls A F I hl
  have hl : lv_has ls 4 [(0, .ref (o)), (1, .int (x)), (2, .int (v))] := hl
  have hL5 := hL.1
  have hS0 := hS
  obtain ⟨el, hYl, hYr⟩ := id hYp
  refine lv_iload_n F.x F.b dX0_give_0 rfl (lv_at hl 1 rfl) ?_
  refine g_calli I (g_runS (n := 1) (As := [.int (x)]) (rest := []) F I (ct_isValley l G _ (x)   _) q269 q270 q52 q271 hd_ct_isValley ⟨Nat.le_of_ble_eq_true rfl, Nat.le_of_ble_eq_true rfl⟩ rfl rfl hl.1 rfl (lv_room (Nat.le_of_ble_eq_true rfl)) dX0_give_1 ⟨by first | exact Nat.le_refl _ | decide, by first | exact Nat.le_refl _ | decide⟩) (fun r u_ H locs hp I => ?_)
  obtain rfl := hp
  refine z_ne (tgt := 9) F dX0_give_4 (by decide) (fun c_4 => ?_) (fun c_4 => ?_)
  · obtain ⟨j, hj, rfl⟩ := wi_n (m := 2) (by decide) c_4
    have tj : (nI j).toNatClampNeg = j := nI_clamp (by omega)
    refine lv_iload_n F.x F.b dX0_give_9 rfl (lv_at hl 2 rfl) ?_
    refine lv_i2l (v := (v).toInt64) F.x F.b dX0_give_10 rfl ?_
    refine lv_lconst (v := 0) F.x F.b dX0_give_11 (by decide) ?_
    refine lv_ldc2 (v := 255) F.x F.b F.o (F.t _ q273) dX0_give_12 ?_
    refine g_calli I (g_runS (n := 3) (As := [.long ((v).toInt64), .long (0), .long ((255))]) (rest := []) F I (ct_in l G _ ((v).toInt64) (0) ((255))   _) q186 q187 q52 q188 hd_ct_in ⟨Nat.le_of_ble_eq_true rfl, Nat.le_of_ble_eq_true rfl⟩ rfl rfl hl.1 rfl (lv_room (Nat.le_of_ble_eq_true rfl)) dX0_give_15 ⟨by first | exact Nat.le_refl _ | decide, by first | exact Nat.le_refl _ | decide⟩) (fun r u_ H locs hp I => ?_)
    obtain rfl := hp
    refine W.val (y := bI (mWi v 0 255)) (by exact congrArg bI (inL_wi v 0 255)) ?_
    refine z_ne (tgt := 24) F dX0_give_18 (by decide) (fun c_18 => ?_) (fun c_18 => ?_)
    · obtain ⟨i, hi, rfl⟩ := wi_n (m := 255) (by decide) c_18
      have ti : (nI i).toNatClampNeg = i := nI_clamp (by omega)
      refine lv_aload_n F.x F.b dX0_give_24 rfl (lv_at hl 0 rfl) ?_
      refine g_calli I (g_runV (n := 0) (ci := 1) (q0 := 0) (As := []) (rest := []) F I (ct_noLand l G o q (S) Y  L 99 (by exact hL) (by exact hS) (by exact hYp) _) q252 q254 qs1 q52 q255 ⟨rfl, hd_ct_noLand⟩ ⟨Nat.le_of_ble_eq_true rfl, Nat.le_of_ble_eq_true rfl⟩ rfl rfl rfl rfl hl.1 rfl (lv_room (Nat.le_of_ble_eq_true rfl)) dX0_give_25 ⟨by first | exact Nat.le_refl _ | decide, by first | exact Nat.le_refl _ | decide⟩) (fun r u_ H locs hp I => ?_)
      obtain ⟨rfl, rfl⟩ := hp
      refine z_eq (tgt := 34) F dX0_give_28 (by decide) (fun c_28 => ?_) (fun c_28 => ?_)
      · refine lv_aload_n F.x F.b dX0_give_34 rfl (lv_at hl 0 rfl) ?_
        refine c_getr F I 2 (by decide) q126 dX0_give_35 ?_
        refine lv_iload_n F.x F.b dX0_give_38 rfl (lv_at hl 1 rfl) ?_
        refine c_ld (v := ((S.2 2) (j))) F I 2 (by decide) (show j < 3 by omega) rfl dX0_give_39 ?_
        refine W.val (y := nI (L 7 j)) (by exact hS.2 j (by omega)) ?_
        refine lv_istore_n (lv' := [(3, .int (nI (L 7 j))), (0, .ref (o)), (1, .int (nI (j))), (2, .int (nI (i)))]) F.x F.b dX0_give_40 rfl hl (by decide) rfl (fun ls hl => ?_)
        refine lv_aload_n F.x F.b dX0_give_41 rfl (lv_at hl 1 rfl) ?_
        refine c_getr F I 2 (by decide) q126 dX0_give_42 ?_
        refine lv_iload_n F.x F.b dX0_give_45 rfl (lv_at hl 2 rfl) ?_
        refine lv_iload_n F.x F.b dX0_give_46 rfl (lv_at hl 3 rfl) ?_
        refine c_st F I 2 (by decide) (show j < 3 by omega) dX0_give_47 (fun H locs (I : Iw G A s (cW G o q (S.1, va_up S.2 2 (upd (S.2 2) (j) (nI (i)))) Y) H locs) => ?_)
        refine lv_iload_n F.x F.b dX0_give_48 rfl (lv_at hl 0 rfl) ?_
        exact g_iret (u := (S.1, va_up S.2 2 (upd (S.2 2) (j) (nI (i))))) F I (by exact ⟨by simp_all [aGive], by rw [sGive, if_pos (by simp_all [okGive]), tj, ti]; exact cLs_up7 hS, by exact ⟨rfl, rfl, rfl, rfl⟩⟩) dX0_give_49 (by first | exact Nat.le_refl _ | decide) (by first | exact Nat.le_refl _ | decide)
      · refine lv_bipush (v := (-3)) F.x F.b dX0_give_31 (by decide) ?_
        exact g_iret (u := S) F I (by exact ⟨by simp_all [aGive], by simp_all [sGive, okGive], cKeep.rf⟩) dX0_give_33 (by first | exact Nat.le_refl _ | decide) (by first | exact Nat.le_refl _ | decide)
    · refine lv_bipush (v := (-2)) F.x F.b dX0_give_21 (by decide) ?_
      exact g_iret (u := S) F I (by exact ⟨by simp_all [aGive], by simp_all [sGive, okGive], cKeep.rf⟩) dX0_give_23 (by first | exact Nat.le_refl _ | decide) (by first | exact Nat.le_refl _ | decide)
  · refine lv_iconst (v := (-1)) F.x F.b dX0_give_7 (by decide) ?_
    exact g_iret (u := S) F I (by exact ⟨by simp_all [aGive], by simp_all [sGive, okGive], cKeep.rf⟩) dX0_give_8 (by first | exact Nat.le_refl _ | decide) (by first | exact Nat.le_refl _ | decide)

theorem hd_ct_open : yX0_open.cls ≠ "java/lang/invoke/MethodHandle" ∧ yX0_open.cls ≠ "java/lang/invoke/VarHandle" ∧ (parseMethodDescriptor yX0_open.desc).map (fun d => d.parameters.length) = some 1 := by decide +kernel
set_option maxHeartbeats 4000000 in
theorem ct_open (l : Launch) (G : gG) (o : Nat) (q : Nat → Nat) (S : MS) (Y : va_W)  (x : Int32) (L : LD) (hL : LOk L) (hS : cLs S L) (hYp : cYp G o q Y L 99) : gMi l yX0_open cX0_open 4 (some .int) ({ frames := 3, cells := 0, slots := 0, locals := 64 } : Room) G [.ref o, .int (x)] (cW G o q S Y) (fun S' => cW G o q S' Y) (fun ρ S' => aOpen L x = ρ ∧ cKeep S S') := by
  refine gMi_of (by decide) (Nat.le_of_ble_eq_true rfl) ?_
  intro p e s m below meth c ls A F I hl
  have hl : lv_has ls 4 [(0, .ref (o)), (1, .int (x))] := hl
  have hL5 := hL.1
  have hS0 := hS
  obtain ⟨el, hYl, hYr⟩ := id hYp
  refine lv_iload_n F.x F.b dX0_open_0 rfl (lv_at hl 1 rfl) ?_
  refine g_calli I (g_runS (n := 1) (As := [.int (x)]) (rest := []) F I (ct_isDay l G _ (x)   _) q247 q248 q52 q249 hd_ct_isDay ⟨Nat.le_of_ble_eq_true rfl, Nat.le_of_ble_eq_true rfl⟩ rfl rfl hl.1 rfl (lv_room (Nat.le_of_ble_eq_true rfl)) dX0_open_1 ⟨by first | exact Nat.le_refl _ | decide, by first | exact Nat.le_refl _ | decide⟩) (fun r u_ H locs hp I => ?_)
  obtain rfl := hp
  refine z_ne (tgt := 10) F dX0_open_4 (by decide) (fun c_4 => ?_) (fun c_4 => ?_)
  · obtain ⟨j, hj, rfl⟩ := wi_n (m := 7) (by decide) c_4
    have tj : (nI j).toNatClampNeg = j := nI_clamp (by omega)
    refine lv_aload_n F.x F.b dX0_open_10 rfl (lv_at hl 0 rfl) ?_
    refine g_calli I (g_runV (n := 0) (ci := 1) (q0 := 0) (As := []) (rest := []) F I (ct_noLand l G o q (S) Y  L 99 (by exact hL) (by exact hS) (by exact hYp) _) q252 q254 qs1 q52 q255 ⟨rfl, hd_ct_noLand⟩ ⟨Nat.le_of_ble_eq_true rfl, Nat.le_of_ble_eq_true rfl⟩ rfl rfl rfl rfl hl.1 rfl (lv_room (Nat.le_of_ble_eq_true rfl)) dX0_open_11 ⟨by first | exact Nat.le_refl _ | decide, by first | exact Nat.le_refl _ | decide⟩) (fun r u_ H locs hp I => ?_)
    obtain ⟨rfl, rfl⟩ := hp
    refine z_eq (tgt := 20) F dX0_open_14 (by decide) (fun c_14 => ?_) (fun c_14 => ?_)
    · refine lv_iconst (v := nI (0)) F.x F.b dX0_open_20 (by decide) ?_
      refine lv_istore_n (lv' := [(2, .int (nI (0))), (0, .ref (o)), (1, .int (nI (j)))]) F.x F.b dX0_open_21 rfl hl (by decide) rfl (fun ls hl => ?_)
      refine lv_iconst (v := nI (0)) F.x F.b dX0_open_22 (by decide) ?_
      refine lv_istore_n (lv' := [(3, .int (nI (0))), (2, .int (nI (0))), (0, .ref (o)), (1, .int (nI (j)))]) F.x F.b dX0_open_23 rfl hl (by decide) rfl (fun ls hl => ?_)
      refine W_ind 24 (fun _ => []) (fun n_J => n_J) (fun n_J H locs ls => ∃ (k : Nat), n_J = L 5 0 - k ∧ (k ≤ L 5 0) ∧  Iw G A s (cW G o q S Y) H locs ∧ lv_has ls 4 [(0, .ref (o)), (1, .int (nI (j))), (2, .int (bSet (fun p => pOp L 99 p j) k)), (3, .int (nI (k)))]) ?_ _ ⟨0, rfl, by omega, I, lv_sub hl [2, 3, 1, 0] rfl⟩
      intro n24 H locs ls hJ ih24
      obtain ⟨k, hn24, hk, I, hl⟩ := hJ
      refine lv_iload_n F.x F.b dX0_open_24 rfl (lv_at hl 3 rfl) ?_
      refine lv_aload_n F.x F.b dX0_open_25 rfl (lv_at hl 0 rfl) ?_
      refine c_getr F I 3 (by decide) q127 dX0_open_26 ?_
      refine c_lsize (fd := 3) (rest := [.int (nI (k))]) F I hYl hl.1 (Nat.le_of_ble_eq_true rfl) ⟨Nat.le_of_ble_eq_true rfl, Nat.le_of_ble_eq_true rfl⟩ ⟨by first | exact Nat.le_refl _ | decide, by first | exact Nat.le_refl _ | decide⟩ q177 dX0_open_29 (fun H locs I => ?_)
      refine n_icmp_ge (tgt := 73) F (by omega) (by omega) dX0_open_34 (by decide) (fun c_34 => ?_) (fun c_34 => ?_)
      · refine lv_iload_n F.x F.b dX0_open_73 rfl (lv_at hl 2 rfl) ?_
        exact g_iret (u := S) F I (by exact ⟨by rw [aOpen, if_pos c_4, if_neg (by simpa using c_14), tj, show L 5 0 = k by omega], cKeep.rf⟩) dX0_open_74 (by first | exact Nat.le_refl _ | decide) (by first | exact Nat.le_refl _ | decide)
      · refine lv_iload_n F.x F.b dX0_open_37 rfl (lv_at hl 2 rfl) ?_
        refine lv_aload_n F.x F.b dX0_open_38 rfl (lv_at hl 0 rfl) ?_
        refine c_getr F I 3 (by decide) q127 dX0_open_39 ?_
        refine lv_iload_n F.x F.b dX0_open_42 rfl (lv_at hl 3 rfl) ?_
        obtain ⟨el43, f43, pa43, kp43, hYl43, hYa43, hf43, hkp43⟩ := hYp.get (j := k) (by omega)
        obtain ⟨lj43_1, lj43_2, lj43_3, lj43_4, lj43_5, lj43_6⟩ := hL.2.1 (k) (by omega)
        refine c_lget (fd := 3) (rest := [.int (bSet (fun p => pOp L 99 p j) k)]) F I hYl43 hYa43 (by omega) (by omega) hf43 hl.1 (Nat.le_of_ble_eq_true rfl) ⟨Nat.le_of_ble_eq_true rfl, Nat.le_of_ble_eq_true rfl⟩ ⟨by first | exact Nat.le_refl _ | decide, by first | exact Nat.le_refl _ | decide⟩ q190 dX0_open_43 (fun H locs I => ?_)
        refine c_pcast F I lj43_1 hkp43 q208 dX0_open_48 ?_
        refine lv_iload_n F.x F.b dX0_open_51 rfl (lv_at hl 1 rfl) ?_
        refine pr_isOpen (rest := [.int (bSet (fun p => pOp L 99 p j) k)]) F I lj43_1 hkp43 (j) (L 6 (j)) (by omega) (hS.1 _ (by omega)) (by have := hL.2.2.1 (j) (by omega); omega) (by omega) hl.1 (Nat.le_of_ble_eq_true rfl) ⟨Nat.le_of_ble_eq_true rfl, Nat.le_of_ble_eq_true rfl⟩ ⟨by first | exact Nat.le_refl _ | decide, by first | exact Nat.le_refl _ | decide⟩ q278 dX0_open_52 (fun H locs I => ?_)
        refine W.val (y := bI (pOp L 99 (k) (j))) (by exact congrArg bI opN_eq) ?_
        refine z_eq (tgt := 64) F dX0_open_55 (by decide) (fun c_55 => ?_) (fun c_55 => ?_)
        · refine lv_iconst (v := nI (0)) F.x F.b dX0_open_64 (by decide) ?_
          refine lv_ior (x := bSet (fun p => pOp L 99 p j) k) (y := 0) F.x F.b dX0_open_65 ?_
          refine W.val (y := bSet (fun p => pOp L 99 p j) (k + 1)) (by exact bSet_s (fun p => pOp L 99 p j) k rfl (by first | (rw [if_pos c_55]; done) | (rw [if_neg (by simp [c_55])]))) ?_
          refine lv_istore_n (lv' := [(2, .int (bSet (fun p => pOp L 99 p j) (k + 1))), (0, .ref (o)), (1, .int (nI (j))), (3, .int (nI (k)))]) F.x F.b dX0_open_66 rfl hl (by decide) rfl (fun ls hl => ?_)
          refine lv_iinc (v := nI ((k + 1))) (lv' := [(3, .int (nI ((k + 1)))), (2, .int (bSet (fun p => pOp L 99 p j) (k + 1))), (0, .ref (o)), (1, .int (nI (j)))]) F.x F.b dX0_open_67 hl (k := 3) rfl (nI_1 (k)) (by decide) rfl (fun ls hl => ?_)
          refine lv_goto (tgt := 24) F.x F.b dX0_open_70 (by decide) ?_
          exact ih24 _ _ _ _ (by omega) ⟨k + 1, rfl, by omega, I, lv_sub hl [2, 3, 1, 0] rfl⟩
        · refine lv_iconst (v := nI (1)) F.x F.b dX0_open_58 (by decide) ?_
          refine lv_iload_n F.x F.b dX0_open_59 rfl (lv_at hl 3 rfl) ?_
          refine lv_ishl (x := 1) (y := (nI (k))) F.x F.b dX0_open_60 ?_
          refine lv_goto (tgt := 65) F.x F.b dX0_open_61 (by decide) ?_
          refine lv_ior (x := bSet (fun p => pOp L 99 p j) k) (y := (1 <<< ((nI (k)) &&& 31))) F.x F.b dX0_open_65 ?_
          refine W.val (y := bSet (fun p => pOp L 99 p j) (k + 1)) (by exact bSet_s (fun p => pOp L 99 p j) k rfl (by first | (rw [if_pos c_55]; done) | (rw [if_neg (by simp [c_55])]))) ?_
          refine lv_istore_n (lv' := [(2, .int (bSet (fun p => pOp L 99 p j) (k + 1))), (0, .ref (o)), (1, .int (nI (j))), (3, .int (nI (k)))]) F.x F.b dX0_open_66 rfl hl (by decide) rfl (fun ls hl => ?_)
          refine lv_iinc (v := nI ((k + 1))) (lv' := [(3, .int (nI ((k + 1)))), (2, .int (bSet (fun p => pOp L 99 p j) (k + 1))), (0, .ref (o)), (1, .int (nI (j)))]) F.x F.b dX0_open_67 hl (k := 3) rfl (nI_1 (k)) (by decide) rfl (fun ls hl => ?_)
          refine lv_goto (tgt := 24) F.x F.b dX0_open_70 (by decide) ?_
          exact ih24 _ _ _ _ (by omega) ⟨k + 1, rfl, by omega, I, lv_sub hl [2, 3, 1, 0] rfl⟩
    · refine lv_bipush (v := (-3)) F.x F.b dX0_open_17 (by decide) ?_
      exact g_iret (u := S) F I (by exact ⟨by simp_all [aOpen], cKeep.rf⟩) dX0_open_19 (by first | exact Nat.le_refl _ | decide) (by first | exact Nat.le_refl _ | decide)
  · refine lv_bipush (v := (-2)) F.x F.b dX0_open_7 (by decide) ?_
    exact g_iret (u := S) F I (by exact ⟨by simp_all [aOpen], cKeep.rf⟩) dX0_open_9 (by first | exact Nat.le_refl _ | decide) (by first | exact Nat.le_refl _ | decide)

theorem hd_ct_soonest : yX0_soonest.cls ≠ "java/lang/invoke/MethodHandle" ∧ yX0_soonest.cls ≠ "java/lang/invoke/VarHandle" ∧ (parseMethodDescriptor yX0_soonest.desc).map (fun d => d.parameters.length) = some 1 := by decide +kernel
set_option maxHeartbeats 4000000 in
theorem ct_soonest (l : Launch) (G : gG) (o : Nat) (q : Nat → Nat) (S : MS) (Y : va_W)  (x : Int32) (L : LD) (hL : LOk L) (hS : cLs S L) (hYp : cYp G o q Y L 99) : gMi l yX0_soonest cX0_soonest 2 (some .int) ({ frames := 6, cells := 0, slots := 0, locals := 135 } : Room) G [.ref o, .int (x)] (cW G o q S Y) (fun S' => cW G o q S' Y) (fun ρ S' => aSoon L x = ρ ∧ cKeep S S') := by
  refine gMi_of (by decide) (Nat.le_of_ble_eq_true rfl) ?_
  intro p e s m below meth c ls A F I hl
  have hl : lv_has ls 2 [(0, .ref (o)), (1, .int (x))] := hl
  have hL5 := hL.1
  have hS0 := hS
  obtain ⟨el, hYl, hYr⟩ := id hYp
  refine lv_iload_n F.x F.b dX0_soonest_0 rfl (lv_at hl 1 rfl) ?_
  refine g_calli I (g_runS (n := 1) (As := [.int (x)]) (rest := []) F I (ct_isDay l G _ (x)   _) q247 q248 q52 q249 hd_ct_isDay ⟨Nat.le_of_ble_eq_true rfl, Nat.le_of_ble_eq_true rfl⟩ rfl rfl hl.1 rfl (lv_room (Nat.le_of_ble_eq_true rfl)) dX0_soonest_1 ⟨by first | exact Nat.le_refl _ | decide, by first | exact Nat.le_refl _ | decide⟩) (fun r u_ H locs hp I => ?_)
  obtain rfl := hp
  refine z_ne (tgt := 10) F dX0_soonest_4 (by decide) (fun c_4 => ?_) (fun c_4 => ?_)
  · obtain ⟨j, hj, rfl⟩ := wi_n (m := 7) (by decide) c_4
    have tj : (nI j).toNatClampNeg = j := nI_clamp (by omega)
    refine lv_aload_n F.x F.b dX0_soonest_10 rfl (lv_at hl 0 rfl) ?_
    refine g_calli I (g_runV (n := 0) (ci := 1) (q0 := 0) (As := []) (rest := []) F I (ct_noLand l G o q (S) Y  L 99 (by exact hL) (by exact hS) (by exact hYp) _) q252 q254 qs1 q52 q255 ⟨rfl, hd_ct_noLand⟩ ⟨Nat.le_of_ble_eq_true rfl, Nat.le_of_ble_eq_true rfl⟩ rfl rfl rfl rfl hl.1 rfl (lv_room (Nat.le_of_ble_eq_true rfl)) dX0_soonest_11 ⟨by first | exact Nat.le_refl _ | decide, by first | exact Nat.le_refl _ | decide⟩) (fun r u_ H locs hp I => ?_)
    obtain ⟨rfl, rfl⟩ := hp
    refine z_eq (tgt := 22) F dX0_soonest_14 (by decide) (fun c_14 => ?_) (fun c_14 => ?_)
    · refine lv_aload_n F.x F.b dX0_soonest_22 rfl (lv_at hl 0 rfl) ?_
      refine lv_iload_n F.x F.b dX0_soonest_23 rfl (lv_at hl 1 rfl) ?_
      refine g_calli I (g_runV (n := 1) (ci := 1) (q0 := 0) (As := [.int (nI (j))]) (rest := []) F I (ct_soonestOf l G o q (S) Y (j) L 99 (by exact hL) (by exact hS) (by exact hYp) (by omega) _) q298 q300 qs2 q52 q301 ⟨rfl, hd_ct_soonestOf⟩ ⟨Nat.le_of_ble_eq_true rfl, Nat.le_of_ble_eq_true rfl⟩ rfl rfl rfl rfl hl.1 rfl (lv_room (Nat.le_of_ble_eq_true rfl)) dX0_soonest_24 ⟨by first | exact Nat.le_refl _ | decide, by first | exact Nat.le_refl _ | decide⟩) (fun r Z24 H locs hp I => ?_)
      obtain ⟨rfl, hq24⟩ := hp
      exact g_iret (u := Z24) F I (by exact ⟨by simp_all [aSoon], hq24⟩) dX0_soonest_27 (by first | exact Nat.le_refl _ | decide) (by first | exact Nat.le_refl _ | decide)
    · refine lv_bipush (v := (-3)) F.x F.b dX0_soonest_17 (by decide) ?_
      refine lv_goto (tgt := 27) F.x F.b dX0_soonest_19 (by decide) ?_
      exact g_iret (u := S) F I (by exact ⟨by simp_all [aSoon], cKeep.rf⟩) dX0_soonest_27 (by first | exact Nat.le_refl _ | decide) (by first | exact Nat.le_refl _ | decide)
  · refine lv_bipush (v := (-2)) F.x F.b dX0_soonest_7 (by decide) ?_
    exact g_iret (u := S) F I (by exact ⟨by simp_all [aSoon], cKeep.rf⟩) dX0_soonest_9 (by first | exact Nat.le_refl _ | decide) (by first | exact Nat.le_refl _ | decide)

theorem hd_ct_holes : yX0_holes.cls ≠ "java/lang/invoke/MethodHandle" ∧ yX0_holes.cls ≠ "java/lang/invoke/VarHandle" ∧ (parseMethodDescriptor yX0_holes.desc).map (fun d => d.parameters.length) = some 1 := by decide +kernel
set_option maxHeartbeats 4000000 in
theorem ct_holes (l : Launch) (G : gG) (o : Nat) (q : Nat → Nat) (S : MS) (Y : va_W)  (x : Int32) (L : LD) (hL : LOk L) (hS : cLs S L) (hYp : cYp G o q Y L 99) : gMi l yX0_holes cX0_holes 2 (some .int) ({ frames := 5, cells := 0, slots := 0, locals := 114 } : Room) G [.ref o, .int (x)] (cW G o q S Y) (fun S' => cW G o q S' Y) (fun ρ S' => aHole L x = ρ ∧ cKeep S S') := by
  refine gMi_of (by decide) (Nat.le_of_ble_eq_true rfl) ?_
  intro p e s m below meth c ls A F I hl
  have hl : lv_has ls 2 [(0, .ref (o)), (1, .int (x))] := hl
  have hL5 := hL.1
  have hS0 := hS
  obtain ⟨el, hYl, hYr⟩ := id hYp
  refine lv_iload_n F.x F.b dX0_holes_0 rfl (lv_at hl 1 rfl) ?_
  refine g_calli I (g_runS (n := 1) (As := [.int (x)]) (rest := []) F I (ct_isDay l G _ (x)   _) q247 q248 q52 q249 hd_ct_isDay ⟨Nat.le_of_ble_eq_true rfl, Nat.le_of_ble_eq_true rfl⟩ rfl rfl hl.1 rfl (lv_room (Nat.le_of_ble_eq_true rfl)) dX0_holes_1 ⟨by first | exact Nat.le_refl _ | decide, by first | exact Nat.le_refl _ | decide⟩) (fun r u_ H locs hp I => ?_)
  obtain rfl := hp
  refine z_ne (tgt := 10) F dX0_holes_4 (by decide) (fun c_4 => ?_) (fun c_4 => ?_)
  · obtain ⟨j, hj, rfl⟩ := wi_n (m := 7) (by decide) c_4
    have tj : (nI j).toNatClampNeg = j := nI_clamp (by omega)
    refine lv_aload_n F.x F.b dX0_holes_10 rfl (lv_at hl 0 rfl) ?_
    refine g_calli I (g_runV (n := 0) (ci := 1) (q0 := 0) (As := []) (rest := []) F I (ct_noLand l G o q (S) Y  L 99 (by exact hL) (by exact hS) (by exact hYp) _) q252 q254 qs1 q52 q255 ⟨rfl, hd_ct_noLand⟩ ⟨Nat.le_of_ble_eq_true rfl, Nat.le_of_ble_eq_true rfl⟩ rfl rfl rfl rfl hl.1 rfl (lv_room (Nat.le_of_ble_eq_true rfl)) dX0_holes_11 ⟨by first | exact Nat.le_refl _ | decide, by first | exact Nat.le_refl _ | decide⟩) (fun r u_ H locs hp I => ?_)
    obtain ⟨rfl, rfl⟩ := hp
    refine z_eq (tgt := 20) F dX0_holes_14 (by decide) (fun c_14 => ?_) (fun c_14 => ?_)
    · refine lv_aload_n F.x F.b dX0_holes_20 rfl (lv_at hl 0 rfl) ?_
      refine lv_iload_n F.x F.b dX0_holes_21 rfl (lv_at hl 1 rfl) ?_
      refine g_callv I (g_runV (n := 1) (ci := 1) (q0 := 0) (As := [.int (nI (j))]) (rest := []) F I (ct_goWheel l G o q (S) Y (j) L 99 (by exact hL) (by exact hS) (by exact hYp) (by omega) _) q302 q304 qs3 q52 q305 ⟨rfl, hd_ct_goWheel⟩ ⟨Nat.le_of_ble_eq_true rfl, Nat.le_of_ble_eq_true rfl⟩ rfl rfl rfl rfl hl.1 rfl (lv_room (Nat.le_of_ble_eq_true rfl)) dX0_holes_22 ⟨by first | exact Nat.le_refl _ | decide, by first | exact Nat.le_refl _ | decide⟩) (fun Z22 H locs hp I => ?_)
      have hq22 := hp
      refine lv_aload_n F.x F.b dX0_holes_25 rfl (lv_at hl 0 rfl) ?_
      refine c_get (v := (Z22.1 6)) F I 6 (by decide) rfl q130 dX0_holes_26 ?_
      exact g_iret (u := Z22) F I (by exact ⟨by rw [aHole, if_pos c_4, if_neg (by simpa using c_14), tj]; exact hq22.2.2.2.symm, hq22.1⟩) dX0_holes_29 (by first | exact Nat.le_refl _ | decide) (by first | exact Nat.le_refl _ | decide)
    · refine lv_bipush (v := (-3)) F.x F.b dX0_holes_17 (by decide) ?_
      exact g_iret (u := S) F I (by exact ⟨by simp_all [aHole], cKeep.rf⟩) dX0_holes_19 (by first | exact Nat.le_refl _ | decide) (by first | exact Nat.le_refl _ | decide)
  · refine lv_bipush (v := (-2)) F.x F.b dX0_holes_7 (by decide) ?_
    exact g_iret (u := S) F I (by exact ⟨by simp_all [aHole], cKeep.rf⟩) dX0_holes_9 (by first | exact Nat.le_refl _ | decide) (by first | exact Nat.le_refl _ | decide)

theorem hd_ct_last : yX0_last.cls ≠ "java/lang/invoke/MethodHandle" ∧ yX0_last.cls ≠ "java/lang/invoke/VarHandle" ∧ (parseMethodDescriptor yX0_last.desc).map (fun d => d.parameters.length) = some 1 := by decide +kernel
set_option maxHeartbeats 4000000 in
theorem ct_last (l : Launch) (G : gG) (o : Nat) (q : Nat → Nat) (S : MS) (Y : va_W)  (x : Int32) (L : LD) (hL : LOk L) (hS : cLs S L) (hYp : cYp G o q Y L 99) : gMi l yX0_last cX0_last 3 (some .int) ({ frames := 7, cells := 0, slots := 0, locals := 157 } : Room) G [.ref o, .int (x)] (cW G o q S Y) (fun S' => cW G o q S' Y) (fun ρ S' => aLast L x = ρ ∧ cKeep S S') := by
  refine gMi_of (by decide) (Nat.le_of_ble_eq_true rfl) ?_
  intro p e s m below meth c ls A F I hl
  have hl : lv_has ls 3 [(0, .ref (o)), (1, .int (x))] := hl
  have hL5 := hL.1
  have hS0 := hS
  obtain ⟨el, hYl, hYr⟩ := id hYp
  refine lv_iload_n F.x F.b dX0_last_0 rfl (lv_at hl 1 rfl) ?_
  refine g_calli I (g_runS (n := 1) (As := [.int (x)]) (rest := []) F I (ct_isDay l G _ (x)   _) q247 q248 q52 q249 hd_ct_isDay ⟨Nat.le_of_ble_eq_true rfl, Nat.le_of_ble_eq_true rfl⟩ rfl rfl hl.1 rfl (lv_room (Nat.le_of_ble_eq_true rfl)) dX0_last_1 ⟨by first | exact Nat.le_refl _ | decide, by first | exact Nat.le_refl _ | decide⟩) (fun r u_ H locs hp I => ?_)
  obtain rfl := hp
  refine z_ne (tgt := 10) F dX0_last_4 (by decide) (fun c_4 => ?_) (fun c_4 => ?_)
  · obtain ⟨j, hj, rfl⟩ := wi_n (m := 7) (by decide) c_4
    have tj : (nI j).toNatClampNeg = j := nI_clamp (by omega)
    refine lv_aload_n F.x F.b dX0_last_10 rfl (lv_at hl 0 rfl) ?_
    refine g_calli I (g_runV (n := 0) (ci := 1) (q0 := 0) (As := []) (rest := []) F I (ct_noLand l G o q (S) Y  L 99 (by exact hL) (by exact hS) (by exact hYp) _) q252 q254 qs1 q52 q255 ⟨rfl, hd_ct_noLand⟩ ⟨Nat.le_of_ble_eq_true rfl, Nat.le_of_ble_eq_true rfl⟩ rfl rfl rfl rfl hl.1 rfl (lv_room (Nat.le_of_ble_eq_true rfl)) dX0_last_11 ⟨by first | exact Nat.le_refl _ | decide, by first | exact Nat.le_refl _ | decide⟩) (fun r u_ H locs hp I => ?_)
    obtain ⟨rfl, rfl⟩ := hp
    refine z_eq (tgt := 20) F dX0_last_14 (by decide) (fun c_14 => ?_) (fun c_14 => ?_)
    · refine lv_iload_n F.x F.b dX0_last_20 rfl (lv_at hl 1 rfl) ?_
      refine W.val (y := (nI (j + 1) - 1)) (by exact (nI_pred j).symm) ?_
      refine lv_istore_n (lv' := [(2, .int ((nI (j + 1) - 1))), (0, .ref (o)), (1, .int (nI (j)))]) F.x F.b dX0_last_21 rfl hl (by decide) rfl (fun ls hl => ?_)
      refine W_ind 22 (fun _ => []) (fun n_J => n_J) (fun n_J H locs ls => ∃ (t : Nat) (S1 : MS), n_J = t ∧ (t ≤ j + 1) ∧ (cKeep S S1) ∧ (lastN (fun d => pBy L 99 d j) (j + 1) = lastN (fun d => pBy L 99 d j) t) ∧  Iw G A s (cW G o q S1 Y) H locs ∧ lv_has ls 3 [(0, .ref (o)), (1, .int (nI (j))), (2, .int ((nI t - 1)))]) ?_ _ ⟨j + 1, S, rfl, by omega, by exact cKeep.rf, by rfl, I, lv_sub hl [1, 2, 0] rfl⟩
      intro n22 H locs ls hJ ih22
      obtain ⟨t, S1, hn22, ht, hk1, hla, I, hl⟩ := hJ
      have hS := cLs_keep hS0 hk1
      refine lv_iload_n F.x F.b dX0_last_22 rfl (lv_at hl 2 rfl) ?_
      rcases Nat.eq_zero_or_pos t with ht0 | ht0
      · subst ht0
        refine W.val (y := -1) rfl ?_
        refine lv_if_lt (x := (-1)) (tgt := 43) F.x F.b dX0_last_23 (by decide) (fun c_23 => ?_) (fun c_23 => absurd c_23 (by decide))
        refine lv_bipush (v := (-9)) F.x F.b dX0_last_43 (by decide) ?_
        exact g_iret (u := S1) F I (by exact ⟨by rw [aLast, if_pos c_4, if_neg (by simpa using c_14), tj, hla]; rfl, hk1⟩) dX0_last_45 (by first | exact Nat.le_refl _ | decide) (by first | exact Nat.le_refl _ | decide)
      · obtain ⟨t1, rfl⟩ : ∃ t1, t = t1 + 1 := ⟨t - 1, by omega⟩
        refine W.val (y := nI t1) (nI_pred t1) ?_
        refine n_if_lt (tgt := 43) F (by omega) dX0_last_23 (by decide) (fun c_23 => absurd c_23 (by exact fun z9 => z9)) (fun c_23 => ?_)
        refine lv_aload_n F.x F.b dX0_last_26 rfl (lv_at hl 0 rfl) ?_
        refine lv_iload_n F.x F.b dX0_last_27 rfl (lv_at hl 2 rfl) ?_
        refine W.val (y := nI (t1)) (by exact nI_pred t1) ?_
        refine lv_iload_n F.x F.b dX0_last_28 rfl (lv_at hl 1 rfl) ?_
        refine g_calli I (g_runV (n := 2) (ci := 1) (q0 := 0) (As := [.int (nI (t1)), .int (nI (j))]) (rest := []) F I (ct_isBy l G o q (S1) Y (t1) (j) L 99 (by exact hL) (by exact hS) (by exact hYp) (by omega) (by omega) _) q338 q340 qs6 q52 q341 ⟨rfl, hd_ct_isBy⟩ ⟨Nat.le_of_ble_eq_true rfl, Nat.le_of_ble_eq_true rfl⟩ rfl rfl rfl rfl hl.1 rfl (lv_room (Nat.le_of_ble_eq_true rfl)) dX0_last_29 ⟨by first | exact Nat.le_refl _ | decide, by first | exact Nat.le_refl _ | decide⟩) (fun r Z29 H locs hp I => ?_)
        obtain ⟨rfl, hq29⟩ := hp
        refine z_eq (tgt := 37) F dX0_last_32 (by decide) (fun c_32 => ?_) (fun c_32 => ?_)
        · refine lv_iinc (v := nI t1 - 1) (lv' := [(2, .int ((nI t1 - 1))), (0, .ref (o)), (1, .int (nI (j)))]) F.x F.b dX0_last_37 hl (k := 2) rfl (dec_ok t1) (by decide) rfl (fun ls hl => ?_)
          refine lv_goto (tgt := 22) F.x F.b dX0_last_40 (by decide) ?_
          exact ih22 _ _ _ _ (by omega) ⟨t1, Z29, rfl, by omega, by exact hk1.tr hq29, by rw [hla, lastN, if_neg (by simp [c_32])], I, lv_sub hl [1, 2, 0] rfl⟩
        · refine lv_iload_n F.x F.b dX0_last_35 rfl (lv_at hl 2 rfl) ?_
          refine W.val (y := nI (t1)) (by exact nI_pred t1) ?_
          exact g_iret (u := Z29) F I (by exact ⟨by rw [aLast, if_pos c_4, if_neg (by simpa using c_14), tj, hla, lastN, if_pos c_32, eN_i (by omega)], hk1.tr hq29⟩) dX0_last_36 (by first | exact Nat.le_refl _ | decide) (by first | exact Nat.le_refl _ | decide)
    · refine lv_bipush (v := (-3)) F.x F.b dX0_last_17 (by decide) ?_
      exact g_iret (u := S) F I (by exact ⟨by simp_all [aLast], cKeep.rf⟩) dX0_last_19 (by first | exact Nat.le_refl _ | decide) (by first | exact Nat.le_refl _ | decide)
  · refine lv_bipush (v := (-2)) F.x F.b dX0_last_7 (by decide) ?_
    exact g_iret (u := S) F I (by exact ⟨by simp_all [aLast], cKeep.rf⟩) dX0_last_9 (by first | exact Nat.le_refl _ | decide) (by first | exact Nat.le_refl _ | decide)
