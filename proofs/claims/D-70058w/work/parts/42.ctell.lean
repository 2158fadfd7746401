/-! THE COMPONENT, tell -/
set_option maxRecDepth 100000

theorem up_up (f : Nat → Int32) (k : Nat) (x y : Int32) : va_up (va_up f k x) k y = va_up f k y := by
  funext j; unfold va_up; split <;> rfl
theorem up_up2 (f : Nat → Int32) (x y : Int32) : va_up f 0 y = va_up (va_up f 0 x) 0 y := (up_up f 0 x y).symm

theorem hd_pt05_said : yX5_said.cls ≠ "java/lang/invoke/MethodHandle" ∧ yX5_said.cls ≠ "java/lang/invoke/VarHandle" ∧ (parseMethodDescriptor yX5_said.desc).map (fun d => d.parameters.length) = some 0 := by decide +kernel
set_option maxHeartbeats 4000000 in
theorem pt05_said (l : Launch) (G : gG) (o : Nat) (q : Nat → Nat) (S : MS) (Y : va_W) {pa kp pj pf pt pn ph : Nat} {pb : Bool}   (hkp : Y[kp]? = some (pa, .inr (2, pF 0 o pj pf pt pn ph pb))) : gMi l yX5_said cX5_said 1 (some .int) ({ frames := 1, cells := 0, slots := 0, locals := 21 } : Room) G [.ref pa] (cW G o q S Y) (fun S' => cW G o q S' Y) (fun ρ S' => nI (ph) = ρ ∧ (va_up S.1 0 (31 * S.1 0 + 1), S.2) = S') := by
  refine gMi_of (by decide) (Nat.le_of_ble_eq_true rfl) ?_
  intro p e s m below meth c ls A F I hl
  have hl : lv_has ls 1 [(0, .ref (pa))] := hl
  refine lv_aload_n F.x F.b dX5_said_0 rfl (lv_at hl 0 rfl) ?_
  refine lv_iconst (v := nI (1)) F.x F.b dX5_said_1 (by decide) ?_
  refine g_calli I (g_runV (n := 1) (ci := 2) (q0 := kp + 4) (As := [.int (nI (1))]) (rest := []) F I (pt05_tracedBy l G o q (S) Y (1)  (by exact hkp) _) q1060 q1043 q1488 q74 q1044 ⟨rfl, hd_pt05_tracedBy⟩ ⟨Nat.le_of_ble_eq_true rfl, Nat.le_of_ble_eq_true rfl⟩ rfl (c_Y hkp) rfl rfl hl.1 rfl (lv_room (Nat.le_of_ble_eq_true rfl)) dX5_said_2 ⟨by first | exact Nat.le_refl _ | decide, by first | exact Nat.le_refl _ | decide⟩) (fun r u_ H locs hp I => ?_)
  obtain ⟨rfl, rfl⟩ := hp
  refine lv_aload_n F.x F.b dX5_said_5 rfl (lv_at hl 0 rfl) ?_
  refine g_get (C := RX5) (T := TX5) (N := 7) (ci := 2) (v := .int (nI (ph))) F I in_X5 rfl (kp + 4) (c_Y hkp) 4 (by decide) q504 (fun _ h9 => h9) rfl dX5_said_6 ?_
  refine lv_iadd (x := 0) (y := (nI (ph))) F.x F.b dX5_said_9 ?_
  exact g_iret (u := (va_up S.1 0 ((31 * (S.1 0) + 1)), S.2)) F I (by exact ⟨by rw [Int32.zero_add], by first | rfl | (simp only [up_up]; done)⟩) dX5_said_10 (by first | exact Nat.le_refl _ | decide) (by first | exact Nat.le_refl _ | decide)

theorem hd_pt15_said : yX5_said.cls ≠ "java/lang/invoke/MethodHandle" ∧ yX5_said.cls ≠ "java/lang/invoke/VarHandle" ∧ (parseMethodDescriptor yX5_said.desc).map (fun d => d.parameters.length) = some 0 := by decide +kernel
set_option maxHeartbeats 4000000 in
theorem pt15_said (l : Launch) (G : gG) (o : Nat) (q : Nat → Nat) (S : MS) (Y : va_W) {pa kp pj pf pt pn ph : Nat} {pb : Bool}   (hkp : Y[kp]? = some (pa, .inr (3, pF 1 o pj pf pt pn ph pb))) : gMi l yX5_said cX5_said 1 (some .int) ({ frames := 1, cells := 0, slots := 0, locals := 21 } : Room) G [.ref pa] (cW G o q S Y) (fun S' => cW G o q S' Y) (fun ρ S' => nI (ph) = ρ ∧ (va_up S.1 0 (31 * S.1 0 + 1), S.2) = S') := by
  refine gMi_of (by decide) (Nat.le_of_ble_eq_true rfl) ?_
  intro p e s m below meth c ls A F I hl
  have hl : lv_has ls 1 [(0, .ref (pa))] := hl
  refine lv_aload_n F.x F.b dX5_said_0 rfl (lv_at hl 0 rfl) ?_
  refine lv_iconst (v := nI (1)) F.x F.b dX5_said_1 (by decide) ?_
  refine g_calli I (g_runU (owner := "CheeseValleys$Pass") (n := 1) (ci := 3) (q0 := kp + 4) (As := [.int (nI (1))]) (rest := []) F I (pt15_tracedBy l G o q (S) Y (1)  (by exact hkp) _) q1060 q1487 q1489 q1043 q74 q1044 rfl hd_pt15_tracedBy ⟨Nat.le_of_ble_eq_true rfl, Nat.le_of_ble_eq_true rfl⟩ rfl (c_Y hkp) rfl rfl hl.1 rfl (lv_room (Nat.le_of_ble_eq_true rfl)) dX5_said_2 ⟨by first | exact Nat.le_refl _ | decide, by first | exact Nat.le_refl _ | decide⟩) (fun r u_ H locs hp I => ?_)
  obtain ⟨rfl, rfl⟩ := hp
  refine lv_aload_n F.x F.b dX5_said_5 rfl (lv_at hl 0 rfl) ?_
  refine g_get (C := RX6) (T := TX6) (N := 8) (ci := 3) (v := .int (nI (ph))) F I in_X6 rfl (kp + 4) (c_Y hkp) 4 (by decide) q504 (fun _ h9 => h9) rfl dX5_said_6 ?_
  refine lv_iadd (x := 0) (y := (nI (ph))) F.x F.b dX5_said_9 ?_
  exact g_iret (u := (va_up S.1 0 ((31 * (S.1 0) + 1)), S.2)) F I (by exact ⟨by rw [Int32.zero_add], by first | rfl | (simp only [up_up]; done)⟩) dX5_said_10 (by first | exact Nat.le_refl _ | decide) (by first | exact Nat.le_refl _ | decide)

theorem hd_pt25_said : yX5_said.cls ≠ "java/lang/invoke/MethodHandle" ∧ yX5_said.cls ≠ "java/lang/invoke/VarHandle" ∧ (parseMethodDescriptor yX5_said.desc).map (fun d => d.parameters.length) = some 0 := by decide +kernel
set_option maxHeartbeats 4000000 in
theorem pt25_said (l : Launch) (G : gG) (o : Nat) (q : Nat → Nat) (S : MS) (Y : va_W) {pa kp pj pf pt pn ph : Nat} {pb : Bool}   (hkp : Y[kp]? = some (pa, .inr (4, pF 2 o pj pf pt pn ph pb))) : gMi l yX5_said cX5_said 1 (some .int) ({ frames := 1, cells := 0, slots := 0, locals := 21 } : Room) G [.ref pa] (cW G o q S Y) (fun S' => cW G o q S' Y) (fun ρ S' => nI (ph) = ρ ∧ (va_up S.1 0 (31 * S.1 0 + 1), S.2) = S') := by
  refine gMi_of (by decide) (Nat.le_of_ble_eq_true rfl) ?_
  intro p e s m below meth c ls A F I hl
  have hl : lv_has ls 1 [(0, .ref (pa))] := hl
  refine lv_aload_n F.x F.b dX5_said_0 rfl (lv_at hl 0 rfl) ?_
  refine lv_iconst (v := nI (1)) F.x F.b dX5_said_1 (by decide) ?_
  refine g_calli I (g_runU (owner := "CheeseValleys$Pass") (n := 1) (ci := 4) (q0 := kp + 4) (As := [.int (nI (1))]) (rest := []) F I (pt25_tracedBy l G o q (S) Y (1)  (by exact hkp) _) q1060 q1487 q1490 q1043 q74 q1044 rfl hd_pt25_tracedBy ⟨Nat.le_of_ble_eq_true rfl, Nat.le_of_ble_eq_true rfl⟩ rfl (c_Y hkp) rfl rfl hl.1 rfl (lv_room (Nat.le_of_ble_eq_true rfl)) dX5_said_2 ⟨by first | exact Nat.le_refl _ | decide, by first | exact Nat.le_refl _ | decide⟩) (fun r u_ H locs hp I => ?_)
  obtain ⟨rfl, rfl⟩ := hp
  refine lv_aload_n F.x F.b dX5_said_5 rfl (lv_at hl 0 rfl) ?_
  refine g_get (C := RX7) (T := TX7) (N := 9) (ci := 4) (v := .int (nI (ph))) F I in_X7 rfl (kp + 4) (c_Y hkp) 4 (by decide) q504 (fun _ h9 => h9) rfl dX5_said_6 ?_
  refine lv_iadd (x := 0) (y := (nI (ph))) F.x F.b dX5_said_9 ?_
  exact g_iret (u := (va_up S.1 0 ((31 * (S.1 0) + 1)), S.2)) F I (by exact ⟨by rw [Int32.zero_add], by first | rfl | (simp only [up_up]; done)⟩) dX5_said_10 (by first | exact Nat.le_refl _ | decide) (by first | exact Nat.le_refl _ | decide)

theorem hd_pt16_said : yX6_said.cls ≠ "java/lang/invoke/MethodHandle" ∧ yX6_said.cls ≠ "java/lang/invoke/VarHandle" ∧ (parseMethodDescriptor yX6_said.desc).map (fun d => d.parameters.length) = some 0 := by decide +kernel
set_option maxHeartbeats 4000000 in
theorem pt16_said (l : Launch) (G : gG) (o : Nat) (q : Nat → Nat) (S : MS) (Y : va_W) {pa kp pj pf pt pn ph : Nat} {pb : Bool}   (hkp : Y[kp]? = some (pa, .inr (3, pF 1 o pj pf pt pn ph pb))) : gMi l yX6_said cX6_said 1 (some .int) ({ frames := 2, cells := 0, slots := 0, locals := 41 } : Room) G [.ref pa] (cW G o q S Y) (fun S' => cW G o q S' Y) (fun ρ S' => nI (ph + 100) = ρ ∧ (va_up S.1 0 (31 * (31 * S.1 0 + 2) + 1), S.2) = S') := by
  refine gMi_of (by decide) (Nat.le_of_ble_eq_true rfl) ?_
  intro p e s m below meth c ls A F I hl
  have hl : lv_has ls 1 [(0, .ref (pa))] := hl
  refine lv_aload_n F.x F.b dX6_said_0 rfl (lv_at hl 0 rfl) ?_
  refine lv_iconst (v := nI (2)) F.x F.b dX6_said_1 (by decide) ?_
  refine g_calli I (g_runU (owner := "CheeseValleys$Pass") (n := 1) (ci := 3) (q0 := kp + 4) (As := [.int (nI (2))]) (rest := []) F I (pt15_tracedBy l G o q (S) Y (2)  (by exact hkp) _) q1038 q1039 q1041 q1043 q74 q1044 rfl hd_pt15_tracedBy ⟨Nat.le_of_ble_eq_true rfl, Nat.le_of_ble_eq_true rfl⟩ rfl (c_Y hkp) rfl rfl hl.1 rfl (lv_room (Nat.le_of_ble_eq_true rfl)) dX6_said_2 ⟨by first | exact Nat.le_refl _ | decide, by first | exact Nat.le_refl _ | decide⟩) (fun r u_ H locs hp I => ?_)
  obtain ⟨rfl, rfl⟩ := hp
  refine lv_aload_n F.x F.b dX6_said_5 rfl (lv_at hl 0 rfl) ?_
  refine g_calli I (g_runSU (n := 0) (ci := 3) (q0 := kp + 4) (As := []) (rest := [.int (0)]) F I (pt15_said l G o q ((va_up S.1 0 ((31 * (S.1 0) + 2)), S.2)) Y   (by exact hkp) _) q1045 q1034 q234 q1032 q74 q1059 ⟨by decide, hd_pt15_said.2.2⟩ ⟨Nat.le_of_ble_eq_true rfl, Nat.le_of_ble_eq_true rfl⟩ rfl (c_Y hkp) rfl rfl hl.1 rfl (lv_room (Nat.le_of_ble_eq_true rfl)) dX6_said_6 ⟨by first | exact Nat.le_refl _ | decide, by first | exact Nat.le_refl _ | decide⟩) (fun r u_ H locs hp I => ?_)
  obtain ⟨rfl, rfl⟩ := hp
  refine lv_iadd (x := 0) (y := (nI (ph))) F.x F.b dX6_said_9 ?_
  refine lv_bipush (v := nI (100)) F.x F.b dX6_said_10 (by decide) ?_
  refine lv_iadd (x := (0 + (nI (ph)))) (y := 100) F.x F.b dX6_said_12 ?_
  exact g_iret (u := (va_up (va_up S.1 0 ((31 * (S.1 0) + 2))) 0 ((31 * (31 * (S.1 0) + 2) + 1)), S.2)) F I (by exact ⟨by rw [Int32.zero_add]; exact (nI_add _ _).symm, by first | rfl | (simp only [up_up]; done)⟩) dX6_said_13 (by first | exact Nat.le_refl _ | decide) (by first | exact Nat.le_refl _ | decide)

theorem hd_pt26_said : yX6_said.cls ≠ "java/lang/invoke/MethodHandle" ∧ yX6_said.cls ≠ "java/lang/invoke/VarHandle" ∧ (parseMethodDescriptor yX6_said.desc).map (fun d => d.parameters.length) = some 0 := by decide +kernel
set_option maxHeartbeats 4000000 in
theorem pt26_said (l : Launch) (G : gG) (o : Nat) (q : Nat → Nat) (S : MS) (Y : va_W) {pa kp pj pf pt pn ph : Nat} {pb : Bool}   (hkp : Y[kp]? = some (pa, .inr (4, pF 2 o pj pf pt pn ph pb))) : gMi l yX6_said cX6_said 1 (some .int) ({ frames := 2, cells := 0, slots := 0, locals := 41 } : Room) G [.ref pa] (cW G o q S Y) (fun S' => cW G o q S' Y) (fun ρ S' => nI (ph + 100) = ρ ∧ (va_up S.1 0 (31 * (31 * S.1 0 + 2) + 1), S.2) = S') := by
  refine gMi_of (by decide) (Nat.le_of_ble_eq_true rfl) ?_
  intro p e s m below meth c ls A F I hl
  have hl : lv_has ls 1 [(0, .ref (pa))] := hl
  refine lv_aload_n F.x F.b dX6_said_0 rfl (lv_at hl 0 rfl) ?_
  refine lv_iconst (v := nI (2)) F.x F.b dX6_said_1 (by decide) ?_
  refine g_calli I (g_runU (owner := "CheeseValleys$Pass") (n := 1) (ci := 4) (q0 := kp + 4) (As := [.int (nI (2))]) (rest := []) F I (pt25_tracedBy l G o q (S) Y (2)  (by exact hkp) _) q1038 q1039 q1042 q1043 q74 q1044 rfl hd_pt25_tracedBy ⟨Nat.le_of_ble_eq_true rfl, Nat.le_of_ble_eq_true rfl⟩ rfl (c_Y hkp) rfl rfl hl.1 rfl (lv_room (Nat.le_of_ble_eq_true rfl)) dX6_said_2 ⟨by first | exact Nat.le_refl _ | decide, by first | exact Nat.le_refl _ | decide⟩) (fun r u_ H locs hp I => ?_)
  obtain ⟨rfl, rfl⟩ := hp
  refine lv_aload_n F.x F.b dX6_said_5 rfl (lv_at hl 0 rfl) ?_
  refine g_calli I (g_runSU (n := 0) (ci := 4) (q0 := kp + 4) (As := []) (rest := [.int (0)]) F I (pt25_said l G o q ((va_up S.1 0 ((31 * (S.1 0) + 2)), S.2)) Y   (by exact hkp) _) q1045 q1034 q234 q1032 q74 q1059 ⟨by decide, hd_pt25_said.2.2⟩ ⟨Nat.le_of_ble_eq_true rfl, Nat.le_of_ble_eq_true rfl⟩ rfl (c_Y hkp) rfl rfl hl.1 rfl (lv_room (Nat.le_of_ble_eq_true rfl)) dX6_said_6 ⟨by first | exact Nat.le_refl _ | decide, by first | exact Nat.le_refl _ | decide⟩) (fun r u_ H locs hp I => ?_)
  obtain ⟨rfl, rfl⟩ := hp
  refine lv_iadd (x := 0) (y := (nI (ph))) F.x F.b dX6_said_9 ?_
  refine lv_bipush (v := nI (100)) F.x F.b dX6_said_10 (by decide) ?_
  refine lv_iadd (x := (0 + (nI (ph)))) (y := 100) F.x F.b dX6_said_12 ?_
  exact g_iret (u := (va_up (va_up S.1 0 ((31 * (S.1 0) + 2))) 0 ((31 * (31 * (S.1 0) + 2) + 1)), S.2)) F I (by exact ⟨by rw [Int32.zero_add]; exact (nI_add _ _).symm, by first | rfl | (simp only [up_up]; done)⟩) dX6_said_13 (by first | exact Nat.le_refl _ | decide) (by first | exact Nat.le_refl _ | decide)

theorem hd_pt26_plainly : yX6_plainly.cls ≠ "java/lang/invoke/MethodHandle" ∧ yX6_plainly.cls ≠ "java/lang/invoke/VarHandle" ∧ (parseMethodDescriptor yX6_plainly.desc).map (fun d => d.parameters.length) = some 0 := by decide +kernel
set_option maxHeartbeats 4000000 in
theorem pt26_plainly (l : Launch) (G : gG) (o : Nat) (q : Nat → Nat) (S : MS) (Y : va_W) {pa kp pj pf pt pn ph : Nat} {pb : Bool}   (hkp : Y[kp]? = some (pa, .inr (4, pF 2 o pj pf pt pn ph pb))) : gMi l yX6_plainly cX6_plainly 1 (some .int) ({ frames := 2, cells := 0, slots := 0, locals := 41 } : Room) G [.ref pa] (cW G o q S Y) (fun S' => cW G o q S' Y) (fun ρ S' => nI (ph) = ρ ∧ (va_up S.1 0 (31 * S.1 0 + 1), S.2) = S') := by
  refine gMi_of (by decide) (Nat.le_of_ble_eq_true rfl) ?_
  intro p e s m below meth c ls A F I hl
  have hl : lv_has ls 1 [(0, .ref (pa))] := hl
  refine lv_aload_n F.x F.b dX6_plainly_0 rfl (lv_at hl 0 rfl) ?_
  refine g_calli I (g_runSU (n := 0) (ci := 4) (q0 := kp + 4) (As := []) (rest := []) F I (pt25_said l G o q (S) Y   (by exact hkp) _) q1045 q1034 q234 q1032 q74 q1059 ⟨by decide, hd_pt25_said.2.2⟩ ⟨Nat.le_of_ble_eq_true rfl, Nat.le_of_ble_eq_true rfl⟩ rfl (c_Y hkp) rfl rfl hl.1 rfl (lv_room (Nat.le_of_ble_eq_true rfl)) dX6_plainly_1 ⟨by first | exact Nat.le_refl _ | decide, by first | exact Nat.le_refl _ | decide⟩) (fun r u_ H locs hp I => ?_)
  obtain ⟨rfl, rfl⟩ := hp
  exact g_iret (u := (va_up S.1 0 ((31 * (S.1 0) + 1)), S.2)) F I (by exact ⟨rfl, by first | rfl | (simp only [up_up]; done)⟩) dX6_plainly_4 (by first | exact Nat.le_refl _ | decide) (by first | exact Nat.le_refl _ | decide)

theorem hd_pt27_said : yX7_said.cls ≠ "java/lang/invoke/MethodHandle" ∧ yX7_said.cls ≠ "java/lang/invoke/VarHandle" ∧ (parseMethodDescriptor yX7_said.desc).map (fun d => d.parameters.length) = some 0 := by decide +kernel
set_option maxHeartbeats 4000000 in
theorem pt27_said (l : Launch) (G : gG) (o : Nat) (q : Nat → Nat) (S : MS) (Y : va_W) {pa kp pj pf pt pn ph : Nat} {pb : Bool}   (hkp : Y[kp]? = some (pa, .inr (4, pF 2 o pj pf pt pn ph pb))) : gMi l yX7_said cX7_said 1 (some .int) ({ frames := 3, cells := 0, slots := 0, locals := 61 } : Room) G [.ref pa] (cW G o q S Y) (fun S' => cW G o q S' Y) (fun ρ S' => nI (2 * ph + 100) = ρ ∧ (va_up S.1 0 (31 * (31 * (31 * (31 * S.1 0 + 3) + 2) + 1) + 1), S.2) = S') := by
  refine gMi_of (by decide) (Nat.le_of_ble_eq_true rfl) ?_
  intro p e s m below meth c ls A F I hl
  have hl : lv_has ls 1 [(0, .ref (pa))] := hl
  refine lv_aload_n F.x F.b dX7_said_0 rfl (lv_at hl 0 rfl) ?_
  refine lv_iconst (v := nI (3)) F.x F.b dX7_said_1 (by decide) ?_
  refine g_calli I (g_runU (owner := "CheeseValleys$Pass") (n := 1) (ci := 4) (q0 := kp + 4) (As := [.int (nI (3))]) (rest := []) F I (pt25_tracedBy l G o q (S) Y (3)  (by exact hkp) _) q1049 q1050 q1051 q1043 q74 q1044 rfl hd_pt25_tracedBy ⟨Nat.le_of_ble_eq_true rfl, Nat.le_of_ble_eq_true rfl⟩ rfl (c_Y hkp) rfl rfl hl.1 rfl (lv_room (Nat.le_of_ble_eq_true rfl)) dX7_said_2 ⟨by first | exact Nat.le_refl _ | decide, by first | exact Nat.le_refl _ | decide⟩) (fun r u_ H locs hp I => ?_)
  obtain ⟨rfl, rfl⟩ := hp
  refine lv_aload_n F.x F.b dX7_said_5 rfl (lv_at hl 0 rfl) ?_
  refine g_calli I (g_runSU (n := 0) (ci := 4) (q0 := kp + 4) (As := []) (rest := [.int (0)]) F I (pt26_said l G o q ((va_up S.1 0 ((31 * (S.1 0) + 3)), S.2)) Y   (by exact hkp) _) q1052 q1486 q557 q1036 q75 q1037 ⟨by decide, hd_pt26_said.2.2⟩ ⟨Nat.le_of_ble_eq_true rfl, Nat.le_of_ble_eq_true rfl⟩ rfl (c_Y hkp) rfl rfl hl.1 rfl (lv_room (Nat.le_of_ble_eq_true rfl)) dX7_said_6 ⟨by first | exact Nat.le_refl _ | decide, by first | exact Nat.le_refl _ | decide⟩) (fun r u_ H locs hp I => ?_)
  obtain ⟨rfl, rfl⟩ := hp
  refine lv_iadd (x := 0) (y := (nI (ph + 100))) F.x F.b dX7_said_9 ?_
  refine lv_aload_n F.x F.b dX7_said_10 rfl (lv_at hl 0 rfl) ?_
  refine g_calli I (g_runU (owner := "CheeseValleys$Steep") (n := 0) (ci := 4) (q0 := kp + 4) (As := []) (rest := [.int ((0 + (nI (ph + 100))))]) F I (pt26_plainly l G o q ((va_up (va_up S.1 0 ((31 * (S.1 0) + 3))) 0 ((31 * (31 * (31 * (S.1 0) + 3) + 2) + 1)), S.2)) Y   (by exact hkp) _) q1053 q1054 q1056 q1057 q75 q1058 rfl hd_pt26_plainly ⟨Nat.le_of_ble_eq_true rfl, Nat.le_of_ble_eq_true rfl⟩ rfl (c_Y hkp) rfl rfl hl.1 rfl (lv_room (Nat.le_of_ble_eq_true rfl)) dX7_said_11 ⟨by first | exact Nat.le_refl _ | decide, by first | exact Nat.le_refl _ | decide⟩) (fun r u_ H locs hp I => ?_)
  obtain ⟨rfl, rfl⟩ := hp
  refine lv_iadd (x := (0 + (nI (ph + 100)))) (y := (nI (ph))) F.x F.b dX7_said_14 ?_
  exact g_iret (u := (va_up (va_up (va_up S.1 0 ((31 * (S.1 0) + 3))) 0 ((31 * (31 * (31 * (S.1 0) + 3) + 2) + 1))) 0 ((31 * (31 * (31 * (31 * (S.1 0) + 3) + 2) + 1) + 1)), S.2)) F I (by exact ⟨by rw [Int32.zero_add, nI_add]; congr 1; omega, by first | rfl | (simp only [up_up]; done)⟩) dX7_said_15 (by first | exact Nat.le_refl _ | decide) (by first | exact Nat.le_refl _ | decide)

theorem hd_ct_tell : yX0_tell.cls ≠ "java/lang/invoke/MethodHandle" ∧ yX0_tell.cls ≠ "java/lang/invoke/VarHandle" ∧ (parseMethodDescriptor yX0_tell.desc).map (fun d => d.parameters.length) = some 1 := by decide +kernel
set_option maxHeartbeats 4000000 in
theorem ct_tell (l : Launch) (G : gG) (o : Nat) (q : Nat → Nat) (S : MS) (Y : va_W)  (x : Int32) (L : LD) (hL : LOk L) (hS : cLs S L) (hYp : cYp G o q Y L 99) : gMi l yX0_tell cX0_tell 2 (some .int) ({ frames := 4, cells := 0, slots := 0, locals := 81 } : Room) G [.ref o, .int (x)] (cW G o q S Y) (fun S' => cW G o q S' Y) (fun ρ S' => aTell L x = ρ ∧ S'.1 0 = tTell L x (S.1 0) ∧ cKeep (va_up S'.1 0 (S.1 0), S'.2) S) := by
  refine gMi_of (by decide) (Nat.le_of_ble_eq_true rfl) ?_
  intro p e s m below meth c ls A F I hl
  have hl : lv_has ls 2 [(0, .ref (o)), (1, .int (x))] := hl
  have hL5 := hL.1
  have hS0 := hS
  obtain ⟨el, hYl, hYr⟩ := id hYp
  refine lv_aload_n F.x F.b dX0_tell_0 rfl (lv_at hl 0 rfl) ?_
  refine lv_iload_n F.x F.b dX0_tell_1 rfl (lv_at hl 1 rfl) ?_
  refine g_calli I (g_runV (n := 1) (ci := 1) (q0 := 0) (As := [.int (x)]) (rest := []) F I (ct_noPass l G o q (S) Y (x) L 99 (by exact hL) (by exact hS) (by exact hYp) _) q172 q174 qs0 q52 q175 ⟨rfl, hd_ct_noPass⟩ ⟨Nat.le_of_ble_eq_true rfl, Nat.le_of_ble_eq_true rfl⟩ rfl rfl rfl rfl hl.1 rfl (lv_room (Nat.le_of_ble_eq_true rfl)) dX0_tell_2 ⟨by first | exact Nat.le_refl _ | decide, by first | exact Nat.le_refl _ | decide⟩) (fun r u_ H locs hp I => ?_)
  obtain ⟨rfl, rfl⟩ := hp
  refine z_eq (tgt := 12) F dX0_tell_5 (by decide) (fun c_5 => ?_) (fun c_5 => ?_)
  · obtain ⟨j, hj, rfl⟩ := pv_n hL5 (by simpa using c_5)
    have tj : (nI j).toNatClampNeg = j := nI_clamp (by omega)
    refine lv_aload_n F.x F.b dX0_tell_12 rfl (lv_at hl 0 rfl) ?_
    refine c_getr F I 3 (by decide) q127 dX0_tell_13 ?_
    refine lv_iload_n F.x F.b dX0_tell_16 rfl (lv_at hl 1 rfl) ?_
    obtain ⟨el17, f17, pa17, kp17, hYl17, hYa17, hf17, hkp17⟩ := hYp.get (j := j) (by omega)
    obtain ⟨lj17_1, lj17_2, lj17_3, lj17_4, lj17_5, lj17_6⟩ := hL.2.1 (j) (by omega)
    refine c_lget (fd := 3) (rest := []) F I hYl17 hYa17 (by omega) (by omega) hf17 hl.1 (Nat.le_of_ble_eq_true rfl) ⟨Nat.le_of_ble_eq_true rfl, Nat.le_of_ble_eq_true rfl⟩ ⟨by first | exact Nat.le_refl _ | decide, by first | exact Nat.le_refl _ | decide⟩ q190 dX0_tell_17 (fun H locs I => ?_)
    refine c_pcast F I lj17_1 hkp17 q208 dX0_tell_22 ?_
    rcases (show L 8 (j) = 0 ∨ L 8 (j) = 1 ∨ L 8 (j) = 2 by omega) with hk8 | hk8 | hk8
    · have hkq := hkp17
      rw [hk8] at hkq
      refine g_calli I (g_runV (n := 0) (ci := 2) (q0 := kp17 + 4) (As := []) (rest := []) F I (pt05_said l G o q (S) Y hkq _) q1031 q1032 q1033 q74 q1059 ⟨rfl, hd_pt05_said⟩ ⟨Nat.le_of_ble_eq_true rfl, Nat.le_of_ble_eq_true rfl⟩ rfl (c_Y hkq) rfl rfl hl.1 rfl (lv_room (Nat.le_of_ble_eq_true rfl)) dX0_tell_25 ⟨by first | exact Nat.le_refl _ | decide, by first | exact Nat.le_refl _ | decide⟩) (fun r u_ H locs hp I => ?_)
      obtain ⟨rfl, rfl⟩ := hp
      exact g_iret (u := (va_up S.1 0 ((31 * (S.1 0) + 1)), S.2)) F I (by exact ⟨by rw [aTell, if_pos (by simpa using c_5), tj, hk8]; rfl, by rw [tTell, if_pos (by simpa using c_5), tj, hk8]; rfl, ⟨rfl, rfl, rfl, rfl⟩⟩) dX0_tell_28 (by first | exact Nat.le_refl _ | decide) (by first | exact Nat.le_refl _ | decide)
    · have hkq := hkp17
      rw [hk8] at hkq
      refine g_calli I (g_runO (owner := "CheeseValleys$Pass") (n := 0) (ci := 3) (q0 := kp17 + 4) (As := []) (rest := []) F I (pt16_said l G o q (S) Y hkq _) q1031 q1034 q1032 q1035 q1036 q75 q1037 q1059 (by decide +kernel) ⟨Nat.le_of_ble_eq_true rfl, Nat.le_of_ble_eq_true rfl⟩ rfl (c_Y hkq) rfl rfl hl.1 rfl (lv_room (Nat.le_of_ble_eq_true rfl)) dX0_tell_25 ⟨by first | exact Nat.le_refl _ | decide, by first | exact Nat.le_refl _ | decide⟩) (fun r u_ H locs hp I => ?_)
      obtain ⟨rfl, rfl⟩ := hp
      exact g_iret (u := (va_up S.1 0 ((31 * (31 * (S.1 0) + 2) + 1)), S.2)) F I (by exact ⟨by rw [aTell, if_pos (by simpa using c_5), tj, hk8]; rfl, by rw [tTell, if_pos (by simpa using c_5), tj, hk8]; rfl, ⟨rfl, rfl, rfl, rfl⟩⟩) dX0_tell_28 (by first | exact Nat.le_refl _ | decide) (by first | exact Nat.le_refl _ | decide)
    · have hkq := hkp17
      rw [hk8] at hkq
      refine g_calli I (g_runO (owner := "CheeseValleys$Pass") (n := 0) (ci := 4) (q0 := kp17 + 4) (As := []) (rest := []) F I (pt27_said l G o q (S) Y hkq _) q1031 q1034 q1032 q1046 q1047 q76 q1048 q1059 (by decide +kernel) ⟨Nat.le_of_ble_eq_true rfl, Nat.le_of_ble_eq_true rfl⟩ rfl (c_Y hkq) rfl rfl hl.1 rfl (lv_room (Nat.le_of_ble_eq_true rfl)) dX0_tell_25 ⟨by first | exact Nat.le_refl _ | decide, by first | exact Nat.le_refl _ | decide⟩) (fun r u_ H locs hp I => ?_)
      obtain ⟨rfl, rfl⟩ := hp
      exact g_iret (u := (va_up S.1 0 ((31 * (31 * (31 * (31 * (S.1 0) + 3) + 2) + 1) + 1)), S.2)) F I (by exact ⟨by rw [aTell, if_pos (by simpa using c_5), tj, hk8]; rfl, by rw [tTell, if_pos (by simpa using c_5), tj, hk8]; rfl, ⟨rfl, rfl, rfl, rfl⟩⟩) dX0_tell_28 (by first | exact Nat.le_refl _ | decide) (by first | exact Nat.le_refl _ | decide)
  · refine lv_iconst (v := (-1)) F.x F.b dX0_tell_8 (by decide) ?_
    refine lv_goto (tgt := 28) F.x F.b dX0_tell_9 (by decide) ?_
    exact g_iret (u := S) F I (by exact ⟨by simp_all [aTell], by simp_all [tTell], cKeep.rf⟩) dX0_tell_28 (by first | exact Nat.le_refl _ | decide) (by first | exact Nat.le_refl _ | decide)
