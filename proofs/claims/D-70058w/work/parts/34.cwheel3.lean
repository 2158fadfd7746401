/-! THE COMPONENT, the wheel of a day, whether it is done by a fair -/
set_option maxRecDepth 100000

theorem hd_ct_goWheel : yX0_goWheel.cls ≠ "java/lang/invoke/MethodHandle" ∧ yX0_goWheel.cls ≠ "java/lang/invoke/VarHandle" ∧ (parseMethodDescriptor yX0_goWheel.desc).map (fun d => d.parameters.length) = some 1 := by decide +kernel
set_option maxHeartbeats 4000000 in
theorem ct_goWheel (l : Launch) (G : gG) (o : Nat) (q : Nat → Nat) (S : MS) (Y : va_W)  (f : Nat) (L : LD) (ms : Nat) (hL : LOk L) (hS : cLs S L) (hYp : cYp G o q Y L ms) (hf : f < 8) : gMv l yX0_goWheel cX0_goWheel 4 none ({ frames := 4, cells := 0, slots := 0, locals := 91 } : Room) G [.ref o, .int (nI (f))] (cW G o q S Y) (fun S' => cW G o q S' Y) (fun S' => cKeep S S' ∧ cTb S' (pWh L ms f)) := by
  refine gMv_of (by decide) (Nat.le_of_ble_eq_true rfl) ?_
  intro p e s m below meth c ls A F I hl
  have hl : lv_has ls 4 [(0, .ref (o)), (1, .int (nI (f)))] := hl
  have hL5 := hL.1
  have hS0 := hS
  obtain ⟨el, hYl, hYr⟩ := id hYp
  refine lv_iconst (v := nI (0)) F.x F.b dX0_goWheel_0 (by decide) ?_
  refine lv_istore_n (lv' := [(2, .int (nI (0))), (0, .ref (o)), (1, .int (nI (f)))]) F.x F.b dX0_goWheel_1 rfl hl (by decide) rfl (fun ls hl => ?_)
  refine W_ind 2 (fun _ => []) (fun n_J => n_J) (fun n_J H locs ls => ∃ (k : Nat) (S1 : MS), n_J = 48 - k ∧ (k ≤ 48) ∧ (cKeep S S1) ∧ (∀ i, i < k → S1.2 4 i = -9) ∧  Iw G A s (cW G o q S1 Y) H locs ∧ lv_has ls 4 [(0, .ref (o)), (1, .int (nI (f))), (2, .int (nI (k)))]) ?_ _ ⟨0, S, rfl, by omega, by exact cKeep.rf, by exact fun i h => absurd h (Nat.not_lt_zero _), I, lv_sub hl [1, 2, 0] rfl⟩
  intro n2 H locs ls hJ ih2
  obtain ⟨k, S1, hn2, hk, hk1, ha, I, hl⟩ := hJ
  refine lv_iload_n F.x F.b dX0_goWheel_2 rfl (lv_at hl 2 rfl) ?_
  refine lv_aload_n F.x F.b dX0_goWheel_3 rfl (lv_at hl 0 rfl) ?_
  refine c_getr F I 4 (by decide) q128 dX0_goWheel_4 ?_
  refine c_len F I 4 (by decide) dX0_goWheel_7 (W.val (y := nI 48) rfl ?_)
  refine n_icmp_ge (tgt := 25) F (by omega) (by omega) dX0_goWheel_8 (by decide) (fun c_8 => ?_) (fun c_8 => ?_)
  · have hk48 : k = 48 := by omega
    subst hk48
    refine lv_aload_n F.x F.b dX0_goWheel_25 rfl (lv_at hl 0 rfl) ?_
    refine lv_bipush (v := (-9)) F.x F.b dX0_goWheel_26 (by decide) ?_
    refine c_put F I 5 (by decide) q129 dX0_goWheel_28 (fun H locs (I : Iw G A s (cW G o q (va_up S1.1 5 ((-9)), S1.2) Y) H locs) => ?_)
    refine lv_aload_n F.x F.b dX0_goWheel_31 rfl (lv_at hl 0 rfl) ?_
    refine lv_bipush (v := (-9)) F.x F.b dX0_goWheel_32 (by decide) ?_
    refine c_put F I 6 (by decide) q130 dX0_goWheel_34 (fun H locs (I : Iw G A s (cW G o q (va_up (va_up S1.1 5 ((-9))) 6 ((-9)), S1.2) Y) H locs) => ?_)
    have hS := cLs_keep hS0 hk1
    refine lv_aload_n F.x F.b dX0_goWheel_37 rfl (lv_at hl 0 rfl) ?_
    refine c_getr F I 2 (by decide) q126 dX0_goWheel_38 ?_
    refine lv_iconst (v := nI (0)) F.x F.b dX0_goWheel_41 (by decide) ?_
    refine c_ld (v := ((S1.2 2) (0))) F I 2 (by decide) (show 0 < 3 by omega) rfl dX0_goWheel_42 ?_
    refine lv_iload_n F.x F.b dX0_goWheel_43 rfl (lv_at hl 1 rfl) ?_
    refine g_calli I (g_runS (n := 2) (As := [.int (((S1.2 2) (0))), .int (nI (f))]) (rest := []) F I (ct_isIn l G _ (((S1.2 2) (0))) (f)   _) q306 q307 q52 q308 hd_ct_isIn ⟨Nat.le_of_ble_eq_true rfl, Nat.le_of_ble_eq_true rfl⟩ rfl rfl hl.1 rfl (lv_room (Nat.le_of_ble_eq_true rfl)) dX0_goWheel_44 ⟨by first | exact Nat.le_refl _ | decide, by first | exact Nat.le_refl _ | decide⟩) (fun r u_ H locs hp I => ?_)
    obtain rfl := hp
    refine W_cut (α := Nat) (cells := 0) (slots := 0) 58 (fun _ => []) (fun _ H locs ls => ∃ (S2 : MS), (cKeep S S2) ∧ (cTb S2 (pSt L f)) ∧ Iw G A s (cW G o q S2 Y) H locs ∧ lv_has ls 4 [(0, .ref (o)), (1, .int (nI (f)))]) (fun J58 => ?_) ?_
    · refine W.val (y := bI (pGv L 0 f)) (by exact congrArg bI (cGv hS hL (by omega) (by omega))) ?_
      refine z_eq (tgt := 58) F dX0_goWheel_47 (by decide) (fun c_47 => ?_) (fun c_47 => ?_)
      · exact J58 0 _ _ _ ⟨(va_up (va_up S1.1 5 ((-9))) 6 ((-9)), S1.2), by first | exact hk1.tr (cKeep.tr (by exact ⟨rfl, rfl, rfl, rfl⟩) hq55.1) | exact hk1.tr (by exact ⟨rfl, rfl, rfl, rfl⟩), by first | exact st_yes c_47 hq55.2 | exact st_no c_47 ⟨fun i hi => ha i hi, rfl, rfl⟩, I, lv_sub hl [0, 1] rfl⟩
      · refine lv_aload_n F.x F.b dX0_goWheel_50 rfl (lv_at hl 0 rfl) ?_
        refine lv_iload_n F.x F.b dX0_goWheel_51 rfl (lv_at hl 1 rfl) ?_
        refine lv_iconst (v := nI (0)) F.x F.b dX0_goWheel_52 (by decide) ?_
        refine lv_iconst (v := nI (0)) F.x F.b dX0_goWheel_53 (by decide) ?_
        refine lv_iconst (v := nI (0)) F.x F.b dX0_goWheel_54 (by decide) ?_
        refine g_callv I (g_runV (n := 4) (ci := 1) (q0 := 0) (As := [.int (nI (f)), .int (nI (0)), .int (nI (0)), .int (nI (0))]) (rest := []) F I (ct_comes l G o q ((va_up (va_up S1.1 5 ((-9))) 6 ((-9)), S1.2)) Y (f) (0) (0) (0) (fun _ => 99, 99, 99) (by exact ⟨fun i hi => ha i hi, rfl, rfl⟩) (by exact fun _ _ _ _ _ _ => Or.inl rfl) (by omega) (by omega) (by omega) (by omega) _) q309 q311 qs4 q52 q312 ⟨rfl, hd_ct_comes⟩ ⟨Nat.le_of_ble_eq_true rfl, Nat.le_of_ble_eq_true rfl⟩ rfl rfl rfl rfl hl.1 rfl (lv_room (Nat.le_of_ble_eq_true rfl)) dX0_goWheel_55 ⟨by first | exact Nat.le_refl _ | decide, by first | exact Nat.le_refl _ | decide⟩) (fun Z55 H locs hp I => ?_)
        have hq55 := hp
        exact J58 0 _ _ _ ⟨Z55, by first | exact hk1.tr (cKeep.tr (by exact ⟨rfl, rfl, rfl, rfl⟩) hq55.1) | exact hk1.tr (by exact ⟨rfl, rfl, rfl, rfl⟩), by first | exact st_yes c_47 hq55.2 | exact st_no c_47 ⟨fun i hi => ha i hi, rfl, rfl⟩, I, lv_sub hl [0, 1] rfl⟩
    · intro _ H locs ls hJ
      obtain ⟨S2, hk2, hT2, I, hl⟩ := hJ
      refine lv_iload_n F.x F.b dX0_goWheel_58 rfl (lv_at hl 1 rfl) ?_
      refine lv_istore_n (lv' := [(2, .int (nI (f))), (0, .ref (o)), (1, .int (nI (f)))]) F.x F.b dX0_goWheel_59 rfl hl (by decide) rfl (fun ls hl => ?_)
      refine W_ind 60 (fun _ => []) (fun n_J => n_J) (fun n_J H locs ls => ∃ (day : Nat) (S3 : MS), n_J = 8 - day ∧ (f ≤ day) ∧ (day ≤ 8) ∧ (cKeep S S3) ∧ (cTb S3 (pDays L ms f (pSt L f) (day - f))) ∧  Iw G A s (cW G o q S3 Y) H locs ∧ lv_has ls 4 [(0, .ref (o)), (1, .int (nI (f))), (2, .int (nI (day)))]) ?_ _ ⟨f, S2, rfl, by omega, by omega, by exact hk2, by rw [Nat.sub_self]; exact hT2, I, lv_sub hl [1, 2, 0] rfl⟩
      intro n60 H locs ls hJ ih60
      obtain ⟨day, S3, hn60, hd1, hd2, hk3, hT3, I, hl⟩ := hJ
      have hS := cLs_keep hS0 hk3
      have hw3 := wOk_days (ms := ms) (f := f) hL (wOk_st (L := L) (f := f)) (day - f) (by omega)
      refine lv_iload_n F.x F.b dX0_goWheel_60 rfl (lv_at hl 2 rfl) ?_
      refine lv_bipush (v := nI (8)) F.x F.b dX0_goWheel_61 (by decide) ?_
      refine n_icmp_ge (tgt := 160) F (by omega) (by omega) dX0_goWheel_63 (by decide) (fun c_63 => ?_) (fun c_63 => ?_)
      · exact g_vret (u := S3) F I (by exact ⟨hk3, by rw [show day = 8 by omega] at hT3; exact hT3⟩) dX0_goWheel_160 (by first | exact Nat.le_refl _ | decide) (by first | exact Nat.le_refl _ | decide)
      · have hb := hw3.1 day 1 0 (by omega) (by omega) (by omega)
        have hp48 := pSp_lt (d := day) (v := 1) (r := 0) (by omega) (by omega) (by omega)
        refine lv_aload_n F.x F.b dX0_goWheel_66 rfl (lv_at hl 0 rfl) ?_
        refine c_getr F I 4 (by decide) q128 dX0_goWheel_67 ?_
        refine lv_iload_n F.x F.b dX0_goWheel_70 rfl (lv_at hl 2 rfl) ?_
        refine lv_iconst (v := nI (1)) F.x F.b dX0_goWheel_71 (by decide) ?_
        refine lv_iconst (v := nI (0)) F.x F.b dX0_goWheel_72 (by decide) ?_
        refine g_calli I (g_runS (n := 3) (As := [.int (nI (day)), .int (nI (1)), .int (nI (0))]) (rest := [.ref (q 4)]) F I (ct_placeOf l G _ (day) (1) (0)   _) q313 q314 q52 q315 hd_ct_placeOf ⟨Nat.le_of_ble_eq_true rfl, Nat.le_of_ble_eq_true rfl⟩ rfl rfl hl.1 rfl (lv_room (Nat.le_of_ble_eq_true rfl)) dX0_goWheel_73 ⟨by first | exact Nat.le_refl _ | decide, by first | exact Nat.le_refl _ | decide⟩) (fun r u_ H locs hp I => ?_)
        obtain rfl := hp
        refine c_ld (v := ((S3.2 4) (pSp day (1) (0)))) F I 4 (by decide) (show pSp day (1) (0) < 48 by omega) rfl dX0_goWheel_76 ?_
        refine W_cut (α := Nat) (cells := 0) (slots := 0) 111 (fun _ => []) (fun _ H locs ls => ∃ (S4 : MS), (cKeep S S4) ∧ (cTb S4 (pRn L day (pDays L ms f (pSt L f) (day - f)))) ∧ Iw G A s (cW G o q S4 Y) H locs ∧ lv_has ls 4 [(0, .ref (o)), (1, .int (nI (f))), (2, .int (nI (day)))]) (fun J111 => ?_) ?_
        · refine W.val (y := eN ((pDays L ms f (pSt L f) (day - f)).1 (pSp day 1 0))) (by exact hT3.1 _ hp48) ?_
          refine e_lt (tgt := 111) F (by omega) dX0_goWheel_77 (by decide) (fun c_77 => ?_) (fun c_77 => ?_)
          · exact J111 0 _ _ _ ⟨S3, by first | exact hk3.tr hq108.1 | exact hk3, by first | exact rn_yes c_77 c_90 hq108.2 | exact rn_no (Or.inl c_77) hT3 | exact rn_no (Or.inr c_90) hT3, I, lv_sub hl [0, 1, 2] rfl⟩
          · refine lv_aload_n F.x F.b dX0_goWheel_80 rfl (lv_at hl 0 rfl) ?_
            refine c_getr F I 2 (by decide) q126 dX0_goWheel_81 ?_
            refine lv_iconst (v := nI (1)) F.x F.b dX0_goWheel_84 (by decide) ?_
            refine c_ld (v := ((S3.2 2) (1))) F I 2 (by decide) (show 1 < 3 by omega) rfl dX0_goWheel_85 ?_
            refine lv_iload_n F.x F.b dX0_goWheel_86 rfl (lv_at hl 2 rfl) ?_
            refine g_calli I (g_runS (n := 2) (As := [.int (((S3.2 2) (1))), .int (nI (day))]) (rest := []) F I (ct_isIn l G _ (((S3.2 2) (1))) (day)   _) q306 q307 q52 q308 hd_ct_isIn ⟨Nat.le_of_ble_eq_true rfl, Nat.le_of_ble_eq_true rfl⟩ rfl rfl hl.1 rfl (lv_room (Nat.le_of_ble_eq_true rfl)) dX0_goWheel_87 ⟨by first | exact Nat.le_refl _ | decide, by first | exact Nat.le_refl _ | decide⟩) (fun r u_ H locs hp I => ?_)
            obtain rfl := hp
            refine W.val (y := bI (pGv L 1 day)) (by exact congrArg bI (cGv hS hL (by omega) (by omega))) ?_
            refine z_eq (tgt := 111) F dX0_goWheel_90 (by decide) (fun c_90 => ?_) (fun c_90 => ?_)
            · exact J111 0 _ _ _ ⟨S3, by first | exact hk3.tr hq108.1 | exact hk3, by first | exact rn_yes c_77 c_90 hq108.2 | exact rn_no (Or.inl c_77) hT3 | exact rn_no (Or.inr c_90) hT3, I, lv_sub hl [0, 1, 2] rfl⟩
            · refine lv_aload_n F.x F.b dX0_goWheel_93 rfl (lv_at hl 0 rfl) ?_
              refine lv_iload_n F.x F.b dX0_goWheel_94 rfl (lv_at hl 2 rfl) ?_
              refine lv_iconst (v := nI (1)) F.x F.b dX0_goWheel_95 (by decide) ?_
              refine lv_iconst (v := nI (1)) F.x F.b dX0_goWheel_96 (by decide) ?_
              refine lv_aload_n F.x F.b dX0_goWheel_97 rfl (lv_at hl 0 rfl) ?_
              refine c_getr F I 4 (by decide) q128 dX0_goWheel_98 ?_
              refine lv_iload_n F.x F.b dX0_goWheel_101 rfl (lv_at hl 2 rfl) ?_
              refine lv_iconst (v := nI (1)) F.x F.b dX0_goWheel_102 (by decide) ?_
              refine lv_iconst (v := nI (0)) F.x F.b dX0_goWheel_103 (by decide) ?_
              refine g_calli I (g_runS (n := 3) (As := [.int (nI (day)), .int (nI (1)), .int (nI (0))]) (rest := [.ref (q 4), .int (nI (1)), .int (nI (1)), .int (nI (day)), .ref (o)]) F I (ct_placeOf l G _ (day) (1) (0)   _) q313 q314 q52 q315 hd_ct_placeOf ⟨Nat.le_of_ble_eq_true rfl, Nat.le_of_ble_eq_true rfl⟩ rfl rfl hl.1 rfl (lv_room (Nat.le_of_ble_eq_true rfl)) dX0_goWheel_104 ⟨by first | exact Nat.le_refl _ | decide, by first | exact Nat.le_refl _ | decide⟩) (fun r u_ H locs hp I => ?_)
              obtain rfl := hp
              refine c_ld (v := ((S3.2 4) (pSp day (1) (0)))) F I 4 (by decide) (show pSp day (1) (0) < 48 by omega) rfl dX0_goWheel_107 ?_
              refine W.val (y := nI ((pDays L ms f (pSt L f) (day - f)).1 (pSp day 1 0))) (by exact (hT3.1 _ hp48).trans (eN_i c_77)) ?_
              refine g_callv I (g_runV (n := 4) (ci := 1) (q0 := 0) (As := [.int (nI (day)), .int (nI (1)), .int (nI (1)), .int (nI ((pDays L ms f (pSt L f) (day - f)).1 (pSp day 1 0)))]) (rest := []) F I (ct_comes l G o q (S3) Y (day) (1) (1) ((pDays L ms f (pSt L f) (day - f)).1 (pSp day 1 0)) (pDays L ms f (pSt L f) (day - f)) (by exact hT3) (by exact hw3.1) (by omega) (by omega) (by omega) (by omega) _) q309 q311 qs4 q52 q312 ⟨rfl, hd_ct_comes⟩ ⟨Nat.le_of_ble_eq_true rfl, Nat.le_of_ble_eq_true rfl⟩ rfl rfl rfl rfl hl.1 rfl (lv_room (Nat.le_of_ble_eq_true rfl)) dX0_goWheel_108 ⟨by first | exact Nat.le_refl _ | decide, by first | exact Nat.le_refl _ | decide⟩) (fun Z108 H locs hp I => ?_)
              have hq108 := hp
              exact J111 0 _ _ _ ⟨Z108, by first | exact hk3.tr hq108.1 | exact hk3, by first | exact rn_yes c_77 c_90 hq108.2 | exact rn_no (Or.inl c_77) hT3 | exact rn_no (Or.inr c_90) hT3, I, lv_sub hl [0, 1, 2] rfl⟩
        · intro _ H locs ls hJ
          obtain ⟨S4, hk4, hT4, I, hl⟩ := hJ
          refine lv_iconst (v := nI (0)) F.x F.b dX0_goWheel_111 (by decide) ?_
          refine lv_istore_n (lv' := [(3, .int (nI (0))), (0, .ref (o)), (1, .int (nI (f))), (2, .int (nI (day)))]) F.x F.b dX0_goWheel_112 rfl hl (by decide) rfl (fun ls hl => ?_)
          refine W_ind 113 (fun _ => []) (fun n_J => n_J) (fun n_J H locs ls => ∃ (k : Nat) (S5 : MS), n_J = 6 - k ∧ (k ≤ 6) ∧ (cKeep S S5) ∧ (cTb S5 (pRow L ms day (pRn L day (pDays L ms f (pSt L f) (day - f))) k)) ∧  Iw G A s (cW G o q S5 Y) H locs ∧ lv_has ls 4 [(0, .ref (o)), (1, .int (nI (f))), (2, .int (nI (day))), (3, .int (nI (k)))]) ?_ _ ⟨0, S4, rfl, by omega, by exact hk4, by exact hT4, I, lv_sub hl [1, 2, 3, 0] rfl⟩
          intro n113 H locs ls hJ ih113
          obtain ⟨k, S5, hn113, hk, hk5, hT5, I, hl⟩ := hJ
          have hS := cLs_keep hS0 hk5
          refine lv_iload_n F.x F.b dX0_goWheel_113 rfl (lv_at hl 3 rfl) ?_
          refine lv_bipush (v := nI (6)) F.x F.b dX0_goWheel_114 (by decide) ?_
          refine n_icmp_ge (tgt := 154) F (by omega) (by omega) dX0_goWheel_116 (by decide) (fun c_116 => ?_) (fun c_116 => ?_)
          · refine lv_iinc (v := nI ((day + 1))) (lv' := [(2, .int (nI ((day + 1)))), (0, .ref (o)), (1, .int (nI (f))), (3, .int (nI (k)))]) F.x F.b dX0_goWheel_154 hl (k := 2) rfl (nI_1 (day)) (by decide) rfl (fun ls hl => ?_)
            refine lv_goto (tgt := 60) F.x F.b dX0_goWheel_157 (by decide) ?_
            exact ih60 _ _ _ _ (by omega) ⟨day + 1, S5, rfl, by omega, by omega, by exact hk5, by exact days_step hd1 (by rw [show k = 6 by omega] at hT5; exact hT5), I, lv_sub hl [1, 2, 0] rfl⟩
          · have hwr := wOk_row (ms := ms) hL (wOk_rn (L := L) hw3 (show day < 8 by omega)) (show day < 8 by omega) k (by omega)
            have hb2 := hwr.1 day (k / 2) (k % 2) (by omega) (by omega) (by omega)
            have hq48 := pSp_lt (d := day) (v := k / 2) (r := k % 2) (by omega) (by omega) (by omega)
            refine lv_aload_n F.x F.b dX0_goWheel_119 rfl (lv_at hl 0 rfl) ?_
            refine c_getr F I 4 (by decide) q128 dX0_goWheel_120 ?_
            refine lv_iload_n F.x F.b dX0_goWheel_123 rfl (lv_at hl 2 rfl) ?_
            refine lv_iload_n F.x F.b dX0_goWheel_124 rfl (lv_at hl 3 rfl) ?_
            refine lv_iconst (v := nI (2)) F.x F.b dX0_goWheel_125 (by decide) ?_
            refine n_idiv F dX0_goWheel_126 (by omega) (by omega) (by omega) ?_
            refine lv_iload_n F.x F.b dX0_goWheel_127 rfl (lv_at hl 3 rfl) ?_
            refine lv_iconst (v := nI (2)) F.x F.b dX0_goWheel_128 (by decide) ?_
            refine n_irem F dX0_goWheel_129 (by omega) (by omega) (by omega) ?_
            refine g_calli I (g_runS (n := 3) (As := [.int (nI (day)), .int (nI ((k / 2))), .int (nI ((k % 2)))]) (rest := [.ref (q 4)]) F I (ct_placeOf l G _ (day) ((k / 2)) ((k % 2))   _) q313 q314 q52 q315 hd_ct_placeOf ⟨Nat.le_of_ble_eq_true rfl, Nat.le_of_ble_eq_true rfl⟩ rfl rfl hl.1 rfl (lv_room (Nat.le_of_ble_eq_true rfl)) dX0_goWheel_130 ⟨by first | exact Nat.le_refl _ | decide, by first | exact Nat.le_refl _ | decide⟩) (fun r u_ H locs hp I => ?_)
            obtain rfl := hp
            refine c_ld (v := ((S5.2 4) (pSp day ((k / 2)) ((k % 2))))) F I 4 (by decide) (show pSp day ((k / 2)) ((k % 2)) < 48 by omega) rfl dX0_goWheel_133 ?_
            refine W.val (y := eN ((pRow L ms day (pRn L day (pDays L ms f (pSt L f) (day - f))) k).1 (pSp day (k / 2) (k % 2)))) (by exact hT5.1 _ hq48) ?_
            refine e_lt (tgt := 148) F (by omega) dX0_goWheel_134 (by decide) (fun c_134 => ?_) (fun c_134 => ?_)
            · refine lv_iinc (v := nI ((k + 1))) (lv' := [(3, .int (nI ((k + 1)))), (0, .ref (o)), (1, .int (nI (f))), (2, .int (nI (day)))]) F.x F.b dX0_goWheel_148 hl (k := 3) rfl (nI_1 (k)) (by decide) rfl (fun ls hl => ?_)
              refine lv_goto (tgt := 113) F.x F.b dX0_goWheel_151 (by decide) ?_
              exact ih113 _ _ _ _ (by omega) ⟨k + 1, S5, rfl, by omega, by first | exact hk5.tr hq145.1 | exact hk5, by first | exact hq145.2 | (show cTb _ (pGo L ms (pRow L ms day (pRn L day (pDays L ms f (pSt L f) (day - f))) k) day (k / 2) (k % 2)); unfold pGo; rw [if_pos c_134]; exact hT5), I, lv_sub hl [1, 2, 3, 0] rfl⟩
            · refine lv_aload_n F.x F.b dX0_goWheel_137 rfl (lv_at hl 0 rfl) ?_
              refine lv_iload_n F.x F.b dX0_goWheel_138 rfl (lv_at hl 2 rfl) ?_
              refine lv_iload_n F.x F.b dX0_goWheel_139 rfl (lv_at hl 3 rfl) ?_
              refine lv_iconst (v := nI (2)) F.x F.b dX0_goWheel_140 (by decide) ?_
              refine n_idiv F dX0_goWheel_141 (by omega) (by omega) (by omega) ?_
              refine lv_iload_n F.x F.b dX0_goWheel_142 rfl (lv_at hl 3 rfl) ?_
              refine lv_iconst (v := nI (2)) F.x F.b dX0_goWheel_143 (by decide) ?_
              refine n_irem F dX0_goWheel_144 (by omega) (by omega) (by omega) ?_
              refine g_callv I (g_runV (n := 3) (ci := 1) (q0 := 0) (As := [.int (nI (day)), .int (nI ((k / 2))), .int (nI ((k % 2)))]) (rest := []) F I (ct_goFrom l G o q (S5) Y (day) ((k / 2)) ((k % 2)) L ms (pRow L ms day (pRn L day (pDays L ms f (pSt L f) (day - f))) k) (by exact hL) (by exact hS) (by exact hYp) (by exact hT5) (by exact hwr) (by exact c_134) (by omega) (by omega) (by omega) _) q319 q321 qs5 q52 q322 ⟨rfl, hd_ct_goFrom⟩ ⟨Nat.le_of_ble_eq_true rfl, Nat.le_of_ble_eq_true rfl⟩ rfl rfl rfl rfl hl.1 rfl (lv_room (Nat.le_of_ble_eq_true rfl)) dX0_goWheel_145 ⟨by first | exact Nat.le_refl _ | decide, by first | exact Nat.le_refl _ | decide⟩) (fun Z145 H locs hp I => ?_)
              have hq145 := hp
              refine lv_iinc (v := nI ((k + 1))) (lv' := [(3, .int (nI ((k + 1)))), (0, .ref (o)), (1, .int (nI (f))), (2, .int (nI (day)))]) F.x F.b dX0_goWheel_148 hl (k := 3) rfl (nI_1 (k)) (by decide) rfl (fun ls hl => ?_)
              refine lv_goto (tgt := 113) F.x F.b dX0_goWheel_151 (by decide) ?_
              exact ih113 _ _ _ _ (by omega) ⟨k + 1, Z145, rfl, by omega, by first | exact hk5.tr hq145.1 | exact hk5, by first | exact hq145.2 | (show cTb _ (pGo L ms (pRow L ms day (pRn L day (pDays L ms f (pSt L f) (day - f))) k) day (k / 2) (k % 2)); unfold pGo; rw [if_pos c_134]; exact hT5), I, lv_sub hl [1, 2, 3, 0] rfl⟩
  · refine lv_aload_n F.x F.b dX0_goWheel_11 rfl (lv_at hl 0 rfl) ?_
    refine c_getr F I 4 (by decide) q128 dX0_goWheel_12 ?_
    refine lv_iload_n F.x F.b dX0_goWheel_15 rfl (lv_at hl 2 rfl) ?_
    refine lv_bipush (v := (-9)) F.x F.b dX0_goWheel_16 (by decide) ?_
    refine c_st F I 4 (by decide) (show k < 48 by omega) dX0_goWheel_18 (fun H locs (I : Iw G A s (cW G o q (S1.1, va_up S1.2 4 (upd (S1.2 4) (k) ((-9)))) Y) H locs) => ?_)
    refine lv_iinc (v := nI ((k + 1))) (lv' := [(2, .int (nI ((k + 1)))), (0, .ref (o)), (1, .int (nI (f)))]) F.x F.b dX0_goWheel_19 hl (k := 2) rfl (nI_1 (k)) (by decide) rfl (fun ls hl => ?_)
    refine lv_goto (tgt := 2) F.x F.b dX0_goWheel_22 (by decide) ?_
    exact ih2 _ _ _ _ (by omega) ⟨k + 1, (S1.1, va_up S1.2 4 (upd (S1.2 4) (k) ((-9)))), rfl, by omega, by exact hk1.tr (by exact ⟨rfl, rfl, rfl, rfl⟩), by intro i h; show upd (S1.2 4) k (-9) i = -9; unfold upd; split <;> first | rfl | exact ha i (by omega), I, lv_sub hl [1, 2, 0] rfl⟩

theorem hd_ct_soonestOf : yX0_soonestOf.cls ≠ "java/lang/invoke/MethodHandle" ∧ yX0_soonestOf.cls ≠ "java/lang/invoke/VarHandle" ∧ (parseMethodDescriptor yX0_soonestOf.desc).map (fun d => d.parameters.length) = some 1 := by decide +kernel
set_option maxHeartbeats 4000000 in
theorem ct_soonestOf (l : Launch) (G : gG) (o : Nat) (q : Nat → Nat) (S : MS) (Y : va_W)  (f : Nat) (L : LD) (ms : Nat) (hL : LOk L) (hS : cLs S L) (hYp : cYp G o q Y L ms) (hf : f < 8) : gMi l yX0_soonestOf cX0_soonestOf 2 (some .int) ({ frames := 5, cells := 0, slots := 0, locals := 114 } : Room) G [.ref o, .int (nI (f))] (cW G o q S Y) (fun S' => cW G o q S' Y) (fun ρ S' => eN ((pWh L ms f).2.1) = ρ ∧ cKeep S S') := by
  refine gMi_of (by decide) (Nat.le_of_ble_eq_true rfl) ?_
  intro p e s m below meth c ls A F I hl
  have hl : lv_has ls 2 [(0, .ref (o)), (1, .int (nI (f)))] := hl
  have hL5 := hL.1
  have hS0 := hS
  obtain ⟨el, hYl, hYr⟩ := id hYp
  refine lv_aload_n F.x F.b dX0_soonestOf_0 rfl (lv_at hl 0 rfl) ?_
  refine lv_iload_n F.x F.b dX0_soonestOf_1 rfl (lv_at hl 1 rfl) ?_
  refine g_callv I (g_runV (n := 1) (ci := 1) (q0 := 0) (As := [.int (nI (f))]) (rest := []) F I (ct_goWheel l G o q (S) Y (f) L ms (by exact hL) (by exact hS) (by exact hYp) (by omega) _) q302 q304 qs3 q52 q305 ⟨rfl, hd_ct_goWheel⟩ ⟨Nat.le_of_ble_eq_true rfl, Nat.le_of_ble_eq_true rfl⟩ rfl rfl rfl rfl hl.1 rfl (lv_room (Nat.le_of_ble_eq_true rfl)) dX0_soonestOf_2 ⟨by first | exact Nat.le_refl _ | decide, by first | exact Nat.le_refl _ | decide⟩) (fun Z2 H locs hp I => ?_)
  have hq2 := hp
  refine lv_aload_n F.x F.b dX0_soonestOf_5 rfl (lv_at hl 0 rfl) ?_
  refine c_get (v := (Z2.1 5)) F I 5 (by decide) rfl q129 dX0_soonestOf_6 ?_
  exact g_iret (u := Z2) F I (by exact ⟨hq2.2.2.1.symm, hq2.1⟩) dX0_soonestOf_9 (by first | exact Nat.le_refl _ | decide) (by first | exact Nat.le_refl _ | decide)

theorem by_eq : ∀ t, t < 100 → ∀ x, x < 8 → mWi (eN t) 0 (nI x) = (decide (t ≠ 99) && decide (t ≤ x)) := by decide +kernel

theorem hd_ct_isBy : yX0_isBy.cls ≠ "java/lang/invoke/MethodHandle" ∧ yX0_isBy.cls ≠ "java/lang/invoke/VarHandle" ∧ (parseMethodDescriptor yX0_isBy.desc).map (fun d => d.parameters.length) = some 2 := by decide +kernel
set_option maxHeartbeats 4000000 in
theorem ct_isBy (l : Launch) (G : gG) (o : Nat) (q : Nat → Nat) (S : MS) (Y : va_W)  (f : Nat) (x : Nat) (L : LD) (ms : Nat) (hL : LOk L) (hS : cLs S L) (hYp : cYp G o q Y L ms) (hf : f < 8) (hx : x < 8) : gMi l yX0_isBy cX0_isBy 3 (some .boolean) ({ frames := 6, cells := 0, slots := 0, locals := 135 } : Room) G [.ref o, .int (nI (f)), .int (nI (x))] (cW G o q S Y) (fun S' => cW G o q S' Y) (fun ρ S' => bI (pBy L ms f x) = ρ ∧ cKeep S S') := by
  refine gMi_of (by decide) (Nat.le_of_ble_eq_true rfl) ?_
  intro p e s m below meth c ls A F I hl
  have hl : lv_has ls 3 [(0, .ref (o)), (1, .int (nI (f))), (2, .int (nI (x)))] := hl
  have hL5 := hL.1
  have hS0 := hS
  obtain ⟨el, hYl, hYr⟩ := id hYp
  have hw := (wOk_wh (ms := ms) hL hf).2.1
  have e9 : inL (eN (pWh L ms f).2.1).toInt64 0 (nI x).toInt64 = pBy L ms f x := (inL_wi _ 0 _).trans (by_eq _ (by omega) _ hx)
  refine lv_aload_n F.x F.b dX0_isBy_0 rfl (lv_at hl 0 rfl) ?_
  refine lv_iload_n F.x F.b dX0_isBy_1 rfl (lv_at hl 1 rfl) ?_
  refine g_calli I (g_runV (n := 1) (ci := 1) (q0 := 0) (As := [.int (nI (f))]) (rest := []) F I (ct_soonestOf l G o q (S) Y (f) L ms (by exact hL) (by exact hS) (by exact hYp) (by omega) _) q298 q300 qs2 q52 q301 ⟨rfl, hd_ct_soonestOf⟩ ⟨Nat.le_of_ble_eq_true rfl, Nat.le_of_ble_eq_true rfl⟩ rfl rfl rfl rfl hl.1 rfl (lv_room (Nat.le_of_ble_eq_true rfl)) dX0_isBy_2 ⟨by first | exact Nat.le_refl _ | decide, by first | exact Nat.le_refl _ | decide⟩) (fun r Z2 H locs hp I => ?_)
  obtain ⟨rfl, hq2⟩ := hp
  refine lv_i2l (v := (eN ((pWh L ms f).2.1)).toInt64) F.x F.b dX0_isBy_5 rfl ?_
  refine lv_lconst (v := 0) F.x F.b dX0_isBy_6 (by decide) ?_
  refine lv_iload_n F.x F.b dX0_isBy_7 rfl (lv_at hl 2 rfl) ?_
  refine lv_i2l (v := (nI (x)).toInt64) F.x F.b dX0_isBy_8 rfl ?_
  refine g_calli I (g_runS (n := 3) (As := [.long ((eN ((pWh L ms f).2.1)).toInt64), .long (0), .long ((nI (x)).toInt64)]) (rest := []) F I (ct_in l G _ ((eN ((pWh L ms f).2.1)).toInt64) (0) ((nI (x)).toInt64)   _) q186 q187 q52 q188 hd_ct_in ⟨Nat.le_of_ble_eq_true rfl, Nat.le_of_ble_eq_true rfl⟩ rfl rfl hl.1 rfl (lv_room (Nat.le_of_ble_eq_true rfl)) dX0_isBy_9 ⟨by first | exact Nat.le_refl _ | decide, by first | exact Nat.le_refl _ | decide⟩) (fun r u_ H locs hp I => ?_)
  obtain rfl := hp
  exact g_zret (u := Z2) F I (by first | exact bI_01 _ | exact Or.inl rfl | exact Or.inr rfl) (by exact ⟨congrArg bI e9.symm, hq2⟩) dX0_isBy_12 (by first | exact Nat.le_refl _ | decide) (by first | exact Nat.le_refl _ | decide)
