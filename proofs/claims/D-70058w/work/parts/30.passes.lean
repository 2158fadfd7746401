/-! THE COMPONENT's passes: by kinds 0, 1, 2 -/
set_option maxRecDepth 100000
def tkN (kd n : Nat) : Nat := if kd = 0 then n else if kd = 1 then n + 1 else (n + 1) / 2
def ovN (f t v : Nat) : Nat := if f = v then t else if t = v then f else 99
def opN (kd h sn : Nat) (b : Bool) : Bool := !b && (decide (kd = 2) || decide (sn < h))

theorem hd_pt05_lasts : yX5_lasts.cls ≠ "java/lang/invoke/MethodHandle" ∧ yX5_lasts.cls ≠ "java/lang/invoke/VarHandle" ∧ (parseMethodDescriptor yX5_lasts.desc).map (fun d => d.parameters.length) = some 0 := by decide +kernel
set_option maxHeartbeats 4000000 in
theorem pt05_lasts (l : Launch) (G : gG) (o : Nat) (q : Nat → Nat) (S : MS) (Y : va_W) {pa kp pj pf pt pn ph : Nat} {pb : Bool}   (hkp : Y[kp]? = some (pa, .inr (2, pF 0 o pj pf pt pn ph pb))) : gMi l yX5_lasts cX5_lasts 1 (some .int) ({ frames := 0, cells := 0, slots := 0, locals := 0 } : Room) G [.ref pa] (cW G o q S Y) (fun S' => cW G o q S' Y) (fun ρ S' => nI (pn) = ρ ∧ S = S') := by
  refine gMi_of (by decide) (Nat.le_of_ble_eq_true rfl) ?_
  intro p e s m below meth c ls A F I hl
  have hl : lv_has ls 1 [(0, .ref (pa))] := hl
  refine lv_aload_n F.x F.b dX5_lasts_0 rfl (lv_at hl 0 rfl) ?_
  refine g_get (C := RX5) (T := TX5) (N := 7) (ci := 2) (v := .int (nI (pn))) F I in_X5 rfl (kp + 4) (c_Y hkp) 3 (by decide) q502 (fun _ h9 => h9) rfl dX5_lasts_1 ?_
  exact g_iret (u := S) F I (by exact ⟨rfl, rfl⟩) dX5_lasts_4 (by first | exact Nat.le_refl _ | decide) (by first | exact Nat.le_refl _ | decide)

theorem hd_pt05_number : yX5_number.cls ≠ "java/lang/invoke/MethodHandle" ∧ yX5_number.cls ≠ "java/lang/invoke/VarHandle" ∧ (parseMethodDescriptor yX5_number.desc).map (fun d => d.parameters.length) = some 0 := by decide +kernel
set_option maxHeartbeats 4000000 in
theorem pt05_number (l : Launch) (G : gG) (o : Nat) (q : Nat → Nat) (S : MS) (Y : va_W) {pa kp pj pf pt pn ph : Nat} {pb : Bool}   (hkp : Y[kp]? = some (pa, .inr (2, pF 0 o pj pf pt pn ph pb))) : gMi l yX5_number cX5_number 1 (some .int) ({ frames := 0, cells := 0, slots := 0, locals := 0 } : Room) G [.ref pa] (cW G o q S Y) (fun S' => cW G o q S' Y) (fun ρ S' => nI (pj) = ρ ∧ S = S') := by
  refine gMi_of (by decide) (Nat.le_of_ble_eq_true rfl) ?_
  intro p e s m below meth c ls A F I hl
  have hl : lv_has ls 1 [(0, .ref (pa))] := hl
  refine lv_aload_n F.x F.b dX5_number_0 rfl (lv_at hl 0 rfl) ?_
  refine g_get (C := RX5) (T := TX5) (N := 7) (ci := 2) (v := .int (nI (pj))) F I in_X5 rfl (kp + 4) (c_Y hkp) 0 (by decide) q492 (fun _ h9 => h9) rfl dX5_number_1 ?_
  exact g_iret (u := S) F I (by exact ⟨rfl, rfl⟩) dX5_number_4 (by first | exact Nat.le_refl _ | decide) (by first | exact Nat.le_refl _ | decide)

theorem hd_pt05_kind : yX5_kind.cls ≠ "java/lang/invoke/MethodHandle" ∧ yX5_kind.cls ≠ "java/lang/invoke/VarHandle" ∧ (parseMethodDescriptor yX5_kind.desc).map (fun d => d.parameters.length) = some 0 := by decide +kernel
set_option maxHeartbeats 4000000 in
theorem pt05_kind (l : Launch) (G : gG) (o : Nat) (q : Nat → Nat) (S : MS) (Y : va_W) {pa kp pj pf pt pn ph : Nat} {pb : Bool}   (hkp : Y[kp]? = some (pa, .inr (2, pF 0 o pj pf pt pn ph pb))) : gMi l yX5_kind cX5_kind 1 (some .int) ({ frames := 0, cells := 0, slots := 0, locals := 0 } : Room) G [.ref pa] (cW G o q S Y) (fun S' => cW G o q S' Y) (fun ρ S' => nI (0) = ρ ∧ S = S') := by
  refine gMi_of (by decide) (Nat.le_of_ble_eq_true rfl) ?_
  intro p e s m below meth c ls A F I hl
  have hl : lv_has ls 1 [(0, .ref (pa))] := hl
  refine lv_iconst (v := nI (0)) F.x F.b dX5_kind_0 (by decide) ?_
  exact g_iret (v := 0) (u := S) F I (by exact ⟨rfl, rfl⟩) dX5_kind_1 (by first | exact Nat.le_refl _ | decide) (by first | exact Nat.le_refl _ | decide)

theorem hd_pt15_lasts : yX5_lasts.cls ≠ "java/lang/invoke/MethodHandle" ∧ yX5_lasts.cls ≠ "java/lang/invoke/VarHandle" ∧ (parseMethodDescriptor yX5_lasts.desc).map (fun d => d.parameters.length) = some 0 := by decide +kernel
set_option maxHeartbeats 4000000 in
theorem pt15_lasts (l : Launch) (G : gG) (o : Nat) (q : Nat → Nat) (S : MS) (Y : va_W) {pa kp pj pf pt pn ph : Nat} {pb : Bool}   (hkp : Y[kp]? = some (pa, .inr (3, pF 1 o pj pf pt pn ph pb))) : gMi l yX5_lasts cX5_lasts 1 (some .int) ({ frames := 0, cells := 0, slots := 0, locals := 0 } : Room) G [.ref pa] (cW G o q S Y) (fun S' => cW G o q S' Y) (fun ρ S' => nI (pn) = ρ ∧ S = S') := by
  refine gMi_of (by decide) (Nat.le_of_ble_eq_true rfl) ?_
  intro p e s m below meth c ls A F I hl
  have hl : lv_has ls 1 [(0, .ref (pa))] := hl
  refine lv_aload_n F.x F.b dX5_lasts_0 rfl (lv_at hl 0 rfl) ?_
  refine g_get (C := RX6) (T := TX6) (N := 8) (ci := 3) (v := .int (nI (pn))) F I in_X6 rfl (kp + 4) (c_Y hkp) 3 (by decide) q502 (fun _ h9 => h9) rfl dX5_lasts_1 ?_
  exact g_iret (u := S) F I (by exact ⟨rfl, rfl⟩) dX5_lasts_4 (by first | exact Nat.le_refl _ | decide) (by first | exact Nat.le_refl _ | decide)

theorem hd_pt15_number : yX5_number.cls ≠ "java/lang/invoke/MethodHandle" ∧ yX5_number.cls ≠ "java/lang/invoke/VarHandle" ∧ (parseMethodDescriptor yX5_number.desc).map (fun d => d.parameters.length) = some 0 := by decide +kernel
set_option maxHeartbeats 4000000 in
theorem pt15_number (l : Launch) (G : gG) (o : Nat) (q : Nat → Nat) (S : MS) (Y : va_W) {pa kp pj pf pt pn ph : Nat} {pb : Bool}   (hkp : Y[kp]? = some (pa, .inr (3, pF 1 o pj pf pt pn ph pb))) : gMi l yX5_number cX5_number 1 (some .int) ({ frames := 0, cells := 0, slots := 0, locals := 0 } : Room) G [.ref pa] (cW G o q S Y) (fun S' => cW G o q S' Y) (fun ρ S' => nI (pj) = ρ ∧ S = S') := by
  refine gMi_of (by decide) (Nat.le_of_ble_eq_true rfl) ?_
  intro p e s m below meth c ls A F I hl
  have hl : lv_has ls 1 [(0, .ref (pa))] := hl
  refine lv_aload_n F.x F.b dX5_number_0 rfl (lv_at hl 0 rfl) ?_
  refine g_get (C := RX6) (T := TX6) (N := 8) (ci := 3) (v := .int (nI (pj))) F I in_X6 rfl (kp + 4) (c_Y hkp) 0 (by decide) q492 (fun _ h9 => h9) rfl dX5_number_1 ?_
  exact g_iret (u := S) F I (by exact ⟨rfl, rfl⟩) dX5_number_4 (by first | exact Nat.le_refl _ | decide) (by first | exact Nat.le_refl _ | decide)

theorem hd_pt16_kind : yX6_kind.cls ≠ "java/lang/invoke/MethodHandle" ∧ yX6_kind.cls ≠ "java/lang/invoke/VarHandle" ∧ (parseMethodDescriptor yX6_kind.desc).map (fun d => d.parameters.length) = some 0 := by decide +kernel
set_option maxHeartbeats 4000000 in
theorem pt16_kind (l : Launch) (G : gG) (o : Nat) (q : Nat → Nat) (S : MS) (Y : va_W) {pa kp pj pf pt pn ph : Nat} {pb : Bool}   (hkp : Y[kp]? = some (pa, .inr (3, pF 1 o pj pf pt pn ph pb))) : gMi l yX6_kind cX6_kind 1 (some .int) ({ frames := 0, cells := 0, slots := 0, locals := 0 } : Room) G [.ref pa] (cW G o q S Y) (fun S' => cW G o q S' Y) (fun ρ S' => nI (1) = ρ ∧ S = S') := by
  refine gMi_of (by decide) (Nat.le_of_ble_eq_true rfl) ?_
  intro p e s m below meth c ls A F I hl
  have hl : lv_has ls 1 [(0, .ref (pa))] := hl
  refine lv_iconst (v := nI (1)) F.x F.b dX6_kind_0 (by decide) ?_
  exact g_iret (v := 1) (u := S) F I (by exact ⟨rfl, rfl⟩) dX6_kind_1 (by first | exact Nat.le_refl _ | decide) (by first | exact Nat.le_refl _ | decide)

theorem hd_pt25_lasts : yX5_lasts.cls ≠ "java/lang/invoke/MethodHandle" ∧ yX5_lasts.cls ≠ "java/lang/invoke/VarHandle" ∧ (parseMethodDescriptor yX5_lasts.desc).map (fun d => d.parameters.length) = some 0 := by decide +kernel
set_option maxHeartbeats 4000000 in
theorem pt25_lasts (l : Launch) (G : gG) (o : Nat) (q : Nat → Nat) (S : MS) (Y : va_W) {pa kp pj pf pt pn ph : Nat} {pb : Bool}   (hkp : Y[kp]? = some (pa, .inr (4, pF 2 o pj pf pt pn ph pb))) : gMi l yX5_lasts cX5_lasts 1 (some .int) ({ frames := 0, cells := 0, slots := 0, locals := 0 } : Room) G [.ref pa] (cW G o q S Y) (fun S' => cW G o q S' Y) (fun ρ S' => nI (pn) = ρ ∧ S = S') := by
  refine gMi_of (by decide) (Nat.le_of_ble_eq_true rfl) ?_
  intro p e s m below meth c ls A F I hl
  have hl : lv_has ls 1 [(0, .ref (pa))] := hl
  refine lv_aload_n F.x F.b dX5_lasts_0 rfl (lv_at hl 0 rfl) ?_
  refine g_get (C := RX7) (T := TX7) (N := 9) (ci := 4) (v := .int (nI (pn))) F I in_X7 rfl (kp + 4) (c_Y hkp) 3 (by decide) q502 (fun _ h9 => h9) rfl dX5_lasts_1 ?_
  exact g_iret (u := S) F I (by exact ⟨rfl, rfl⟩) dX5_lasts_4 (by first | exact Nat.le_refl _ | decide) (by first | exact Nat.le_refl _ | decide)

theorem hd_pt25_number : yX5_number.cls ≠ "java/lang/invoke/MethodHandle" ∧ yX5_number.cls ≠ "java/lang/invoke/VarHandle" ∧ (parseMethodDescriptor yX5_number.desc).map (fun d => d.parameters.length) = some 0 := by decide +kernel
set_option maxHeartbeats 4000000 in
theorem pt25_number (l : Launch) (G : gG) (o : Nat) (q : Nat → Nat) (S : MS) (Y : va_W) {pa kp pj pf pt pn ph : Nat} {pb : Bool}   (hkp : Y[kp]? = some (pa, .inr (4, pF 2 o pj pf pt pn ph pb))) : gMi l yX5_number cX5_number 1 (some .int) ({ frames := 0, cells := 0, slots := 0, locals := 0 } : Room) G [.ref pa] (cW G o q S Y) (fun S' => cW G o q S' Y) (fun ρ S' => nI (pj) = ρ ∧ S = S') := by
  refine gMi_of (by decide) (Nat.le_of_ble_eq_true rfl) ?_
  intro p e s m below meth c ls A F I hl
  have hl : lv_has ls 1 [(0, .ref (pa))] := hl
  refine lv_aload_n F.x F.b dX5_number_0 rfl (lv_at hl 0 rfl) ?_
  refine g_get (C := RX7) (T := TX7) (N := 9) (ci := 4) (v := .int (nI (pj))) F I in_X7 rfl (kp + 4) (c_Y hkp) 0 (by decide) q492 (fun _ h9 => h9) rfl dX5_number_1 ?_
  exact g_iret (u := S) F I (by exact ⟨rfl, rfl⟩) dX5_number_4 (by first | exact Nat.le_refl _ | decide) (by first | exact Nat.le_refl _ | decide)

theorem hd_pt27_kind : yX7_kind.cls ≠ "java/lang/invoke/MethodHandle" ∧ yX7_kind.cls ≠ "java/lang/invoke/VarHandle" ∧ (parseMethodDescriptor yX7_kind.desc).map (fun d => d.parameters.length) = some 0 := by decide +kernel
set_option maxHeartbeats 4000000 in
theorem pt27_kind (l : Launch) (G : gG) (o : Nat) (q : Nat → Nat) (S : MS) (Y : va_W) {pa kp pj pf pt pn ph : Nat} {pb : Bool}   (hkp : Y[kp]? = some (pa, .inr (4, pF 2 o pj pf pt pn ph pb))) : gMi l yX7_kind cX7_kind 1 (some .int) ({ frames := 0, cells := 0, slots := 0, locals := 0 } : Room) G [.ref pa] (cW G o q S Y) (fun S' => cW G o q S' Y) (fun ρ S' => nI (2) = ρ ∧ S = S') := by
  refine gMi_of (by decide) (Nat.le_of_ble_eq_true rfl) ?_
  intro p e s m below meth c ls A F I hl
  have hl : lv_has ls 1 [(0, .ref (pa))] := hl
  refine lv_iconst (v := nI (2)) F.x F.b dX7_kind_0 (by decide) ?_
  exact g_iret (v := 2) (u := S) F I (by exact ⟨rfl, rfl⟩) dX7_kind_1 (by first | exact Nat.le_refl _ | decide) (by first | exact Nat.le_refl _ | decide)

theorem hd_pt16_plainlyLasts : yX6_plainlyLasts.cls ≠ "java/lang/invoke/MethodHandle" ∧ yX6_plainlyLasts.cls ≠ "java/lang/invoke/VarHandle" ∧ (parseMethodDescriptor yX6_plainlyLasts.desc).map (fun d => d.parameters.length) = some 0 := by decide +kernel
set_option maxHeartbeats 4000000 in
theorem pt16_plainlyLasts (l : Launch) (G : gG) (o : Nat) (q : Nat → Nat) (S : MS) (Y : va_W) {pa kp pj pf pt pn ph : Nat} {pb : Bool}   (hkp : Y[kp]? = some (pa, .inr (3, pF 1 o pj pf pt pn ph pb))) : gMi l yX6_plainlyLasts cX6_plainlyLasts 1 (some .int) ({ frames := 1, cells := 0, slots := 0, locals := 20 } : Room) G [.ref pa] (cW G o q S Y) (fun S' => cW G o q S' Y) (fun ρ S' => nI (pn) = ρ ∧ S = S') := by
  refine gMi_of (by decide) (Nat.le_of_ble_eq_true rfl) ?_
  intro p e s m below meth c ls A F I hl
  have hl : lv_has ls 1 [(0, .ref (pa))] := hl
  refine lv_aload_n F.x F.b dX6_plainlyLasts_0 rfl (lv_at hl 0 rfl) ?_
  refine g_calli I (g_runSU (n := 0) (ci := 3) (q0 := kp + 4) (As := []) (rest := []) F I (pt15_lasts l G o q (S) Y   (by exact hkp) _) q233 q223 q234 q221 q74 q242 ⟨by decide, hd_pt15_lasts.2.2⟩ ⟨Nat.le_of_ble_eq_true rfl, Nat.le_of_ble_eq_true rfl⟩ rfl (c_Y hkp) rfl rfl hl.1 rfl (lv_room (Nat.le_of_ble_eq_true rfl)) dX6_plainlyLasts_1 ⟨by first | exact Nat.le_refl _ | decide, by first | exact Nat.le_refl _ | decide⟩) (fun r u_ H locs hp I => ?_)
  obtain ⟨rfl, rfl⟩ := hp
  exact g_iret (u := S) F I (by exact ⟨rfl, rfl⟩) dX6_plainlyLasts_4 (by first | exact Nat.le_refl _ | decide) (by first | exact Nat.le_refl _ | decide)

theorem hd_pt26_plainlyLasts : yX6_plainlyLasts.cls ≠ "java/lang/invoke/MethodHandle" ∧ yX6_plainlyLasts.cls ≠ "java/lang/invoke/VarHandle" ∧ (parseMethodDescriptor yX6_plainlyLasts.desc).map (fun d => d.parameters.length) = some 0 := by decide +kernel
set_option maxHeartbeats 4000000 in
theorem pt26_plainlyLasts (l : Launch) (G : gG) (o : Nat) (q : Nat → Nat) (S : MS) (Y : va_W) {pa kp pj pf pt pn ph : Nat} {pb : Bool}   (hkp : Y[kp]? = some (pa, .inr (4, pF 2 o pj pf pt pn ph pb))) : gMi l yX6_plainlyLasts cX6_plainlyLasts 1 (some .int) ({ frames := 1, cells := 0, slots := 0, locals := 20 } : Room) G [.ref pa] (cW G o q S Y) (fun S' => cW G o q S' Y) (fun ρ S' => nI (pn) = ρ ∧ S = S') := by
  refine gMi_of (by decide) (Nat.le_of_ble_eq_true rfl) ?_
  intro p e s m below meth c ls A F I hl
  have hl : lv_has ls 1 [(0, .ref (pa))] := hl
  refine lv_aload_n F.x F.b dX6_plainlyLasts_0 rfl (lv_at hl 0 rfl) ?_
  refine g_calli I (g_runSU (n := 0) (ci := 4) (q0 := kp + 4) (As := []) (rest := []) F I (pt25_lasts l G o q (S) Y   (by exact hkp) _) q233 q223 q234 q221 q74 q242 ⟨by decide, hd_pt25_lasts.2.2⟩ ⟨Nat.le_of_ble_eq_true rfl, Nat.le_of_ble_eq_true rfl⟩ rfl (c_Y hkp) rfl rfl hl.1 rfl (lv_room (Nat.le_of_ble_eq_true rfl)) dX6_plainlyLasts_1 ⟨by first | exact Nat.le_refl _ | decide, by first | exact Nat.le_refl _ | decide⟩) (fun r u_ H locs hp I => ?_)
  obtain ⟨rfl, rfl⟩ := hp
  exact g_iret (u := S) F I (by exact ⟨rfl, rfl⟩) dX6_plainlyLasts_4 (by first | exact Nat.le_refl _ | decide) (by first | exact Nat.le_refl _ | decide)

theorem hd_pt16_lasts : yX6_lasts.cls ≠ "java/lang/invoke/MethodHandle" ∧ yX6_lasts.cls ≠ "java/lang/invoke/VarHandle" ∧ (parseMethodDescriptor yX6_lasts.desc).map (fun d => d.parameters.length) = some 0 := by decide +kernel
set_option maxHeartbeats 4000000 in
theorem pt16_lasts (l : Launch) (G : gG) (o : Nat) (q : Nat → Nat) (S : MS) (Y : va_W) {pa kp pj pf pt pn ph : Nat} {pb : Bool}   (hkp : Y[kp]? = some (pa, .inr (3, pF 1 o pj pf pt pn ph pb))) : gMi l yX6_lasts cX6_lasts 1 (some .int) ({ frames := 2, cells := 0, slots := 0, locals := 40 } : Room) G [.ref pa] (cW G o q S Y) (fun S' => cW G o q S' Y) (fun ρ S' => nI (pn + 1) = ρ ∧ S = S') := by
  refine gMi_of (by decide) (Nat.le_of_ble_eq_true rfl) ?_
  intro p e s m below meth c ls A F I hl
  have hl : lv_has ls 1 [(0, .ref (pa))] := hl
  refine lv_aload_n F.x F.b dX6_lasts_0 rfl (lv_at hl 0 rfl) ?_
  refine g_calli I (g_runV (n := 0) (ci := 3) (q0 := kp + 4) (As := []) (rest := []) F I (pt16_plainlyLasts l G o q (S) Y   (by exact hkp) _) q227 q228 q229 q75 q232 ⟨rfl, hd_pt16_plainlyLasts⟩ ⟨Nat.le_of_ble_eq_true rfl, Nat.le_of_ble_eq_true rfl⟩ rfl (c_Y hkp) rfl rfl hl.1 rfl (lv_room (Nat.le_of_ble_eq_true rfl)) dX6_lasts_1 ⟨by first | exact Nat.le_refl _ | decide, by first | exact Nat.le_refl _ | decide⟩) (fun r u_ H locs hp I => ?_)
  obtain ⟨rfl, rfl⟩ := hp
  refine lv_iconst (v := nI (1)) F.x F.b dX6_lasts_4 (by decide) ?_
  refine n_iadd F dX6_lasts_5 ?_
  exact g_iret (u := S) F I (by exact ⟨rfl, rfl⟩) dX6_lasts_6 (by first | exact Nat.le_refl _ | decide) (by first | exact Nat.le_refl _ | decide)

theorem hd_pt27_lasts : yX7_lasts.cls ≠ "java/lang/invoke/MethodHandle" ∧ yX7_lasts.cls ≠ "java/lang/invoke/VarHandle" ∧ (parseMethodDescriptor yX7_lasts.desc).map (fun d => d.parameters.length) = some 0 := by decide +kernel
set_option maxHeartbeats 4000000 in
theorem pt27_lasts (l : Launch) (G : gG) (o : Nat) (q : Nat → Nat) (S : MS) (Y : va_W) {pa kp pj pf pt pn ph : Nat} {pb : Bool}   (hkp : Y[kp]? = some (pa, .inr (4, pF 2 o pj pf pt pn ph pb))) (hpn : pn < 100) : gMi l yX7_lasts cX7_lasts 1 (some .int) ({ frames := 2, cells := 0, slots := 0, locals := 40 } : Room) G [.ref pa] (cW G o q S Y) (fun S' => cW G o q S' Y) (fun ρ S' => nI ((pn + 1) / 2) = ρ ∧ S = S') := by
  refine gMi_of (by decide) (Nat.le_of_ble_eq_true rfl) ?_
  intro p e s m below meth c ls A F I hl
  have hl : lv_has ls 1 [(0, .ref (pa))] := hl
  refine lv_aload_n F.x F.b dX7_lasts_0 rfl (lv_at hl 0 rfl) ?_
  refine g_calli I (g_runU (owner := "CheeseValleys$Steep") (n := 0) (ci := 4) (q0 := kp + 4) (As := []) (rest := []) F I (pt26_plainlyLasts l G o q (S) Y   (by exact hkp) _) q238 q239 q241 q228 q75 q232 rfl hd_pt26_plainlyLasts ⟨Nat.le_of_ble_eq_true rfl, Nat.le_of_ble_eq_true rfl⟩ rfl (c_Y hkp) rfl rfl hl.1 rfl (lv_room (Nat.le_of_ble_eq_true rfl)) dX7_lasts_1 ⟨by first | exact Nat.le_refl _ | decide, by first | exact Nat.le_refl _ | decide⟩) (fun r u_ H locs hp I => ?_)
  obtain ⟨rfl, rfl⟩ := hp
  refine lv_iconst (v := nI (1)) F.x F.b dX7_lasts_4 (by decide) ?_
  refine n_iadd F dX7_lasts_5 ?_
  refine lv_iconst (v := nI (2)) F.x F.b dX7_lasts_6 (by decide) ?_
  refine n_idiv F dX7_lasts_7 (by omega) (by omega) (by omega) ?_
  exact g_iret (u := S) F I (by exact ⟨rfl, rfl⟩) dX7_lasts_8 (by first | exact Nat.le_refl _ | decide) (by first | exact Nat.le_refl _ | decide)

theorem hd_pt05_isOver : yX5_isOver.cls ≠ "java/lang/invoke/MethodHandle" ∧ yX5_isOver.cls ≠ "java/lang/invoke/VarHandle" ∧ (parseMethodDescriptor yX5_isOver.desc).map (fun d => d.parameters.length) = some 1 := by decide +kernel
set_option maxHeartbeats 4000000 in
theorem pt05_isOver (l : Launch) (G : gG) (o : Nat) (q : Nat → Nat) (S : MS) (Y : va_W) {pa kp pj pf pt pn ph : Nat} {pb : Bool} (sn : Nat)  (hkp : Y[kp]? = some (pa, .inr (2, pF 0 o pj pf pt pn ph pb))) (hph : ph < 100) (hsn : sn < 100) : gMi l yX5_isOver cX5_isOver 2 (some .boolean) ({ frames := 0, cells := 0, slots := 0, locals := 0 } : Room) G [.ref pa, .int (nI (sn))] (cW G o q S Y) (fun S' => cW G o q S' Y) (fun ρ S' => bI (decide (sn < ph)) = ρ ∧ S = S') := by
  refine gMi_of (by decide) (Nat.le_of_ble_eq_true rfl) ?_
  intro p e s m below meth c ls A F I hl
  have hl : lv_has ls 2 [(0, .ref (pa)), (1, .int (nI (sn)))] := hl
  refine lv_aload_n F.x F.b dX5_isOver_0 rfl (lv_at hl 0 rfl) ?_
  refine g_get (C := RX5) (T := TX5) (N := 7) (ci := 2) (v := .int (nI (ph))) F I in_X5 rfl (kp + 4) (c_Y hkp) 4 (by decide) q504 (fun _ h9 => h9) rfl dX5_isOver_1 ?_
  refine lv_iload_n F.x F.b dX5_isOver_4 rfl (lv_at hl 1 rfl) ?_
  refine n_icmp_le (tgt := 12) F (by omega) (by omega) dX5_isOver_5 (by decide) (fun c_5 => ?_) (fun c_5 => ?_)
  · refine lv_iconst (v := nI (0)) F.x F.b dX5_isOver_12 (by decide) ?_
    exact g_zret (u := S) F I (by first | exact bI_01 _ | exact Or.inl rfl | exact Or.inr rfl) (by exact ⟨by simp [bI, nI_0, nI1, *]; try omega, rfl⟩) dX5_isOver_13 (by first | exact Nat.le_refl _ | decide) (by first | exact Nat.le_refl _ | decide)
  · refine lv_iconst (v := nI (1)) F.x F.b dX5_isOver_8 (by decide) ?_
    refine lv_goto (tgt := 13) F.x F.b dX5_isOver_9 (by decide) ?_
    exact g_zret (u := S) F I (by first | exact bI_01 _ | exact Or.inl rfl | exact Or.inr rfl) (by exact ⟨by simp [bI, nI_0, nI1, *]; try omega, rfl⟩) dX5_isOver_13 (by first | exact Nat.le_refl _ | decide) (by first | exact Nat.le_refl _ | decide)

theorem hd_pt15_isOver : yX5_isOver.cls ≠ "java/lang/invoke/MethodHandle" ∧ yX5_isOver.cls ≠ "java/lang/invoke/VarHandle" ∧ (parseMethodDescriptor yX5_isOver.desc).map (fun d => d.parameters.length) = some 1 := by decide +kernel
set_option maxHeartbeats 4000000 in
theorem pt15_isOver (l : Launch) (G : gG) (o : Nat) (q : Nat → Nat) (S : MS) (Y : va_W) {pa kp pj pf pt pn ph : Nat} {pb : Bool} (sn : Nat)  (hkp : Y[kp]? = some (pa, .inr (3, pF 1 o pj pf pt pn ph pb))) (hph : ph < 100) (hsn : sn < 100) : gMi l yX5_isOver cX5_isOver 2 (some .boolean) ({ frames := 0, cells := 0, slots := 0, locals := 0 } : Room) G [.ref pa, .int (nI (sn))] (cW G o q S Y) (fun S' => cW G o q S' Y) (fun ρ S' => bI (decide (sn < ph)) = ρ ∧ S = S') := by
  refine gMi_of (by decide) (Nat.le_of_ble_eq_true rfl) ?_
  intro p e s m below meth c ls A F I hl
  have hl : lv_has ls 2 [(0, .ref (pa)), (1, .int (nI (sn)))] := hl
  refine lv_aload_n F.x F.b dX5_isOver_0 rfl (lv_at hl 0 rfl) ?_
  refine g_get (C := RX6) (T := TX6) (N := 8) (ci := 3) (v := .int (nI (ph))) F I in_X6 rfl (kp + 4) (c_Y hkp) 4 (by decide) q504 (fun _ h9 => h9) rfl dX5_isOver_1 ?_
  refine lv_iload_n F.x F.b dX5_isOver_4 rfl (lv_at hl 1 rfl) ?_
  refine n_icmp_le (tgt := 12) F (by omega) (by omega) dX5_isOver_5 (by decide) (fun c_5 => ?_) (fun c_5 => ?_)
  · refine lv_iconst (v := nI (0)) F.x F.b dX5_isOver_12 (by decide) ?_
    exact g_zret (u := S) F I (by first | exact bI_01 _ | exact Or.inl rfl | exact Or.inr rfl) (by exact ⟨by simp [bI, nI_0, nI1, *]; try omega, rfl⟩) dX5_isOver_13 (by first | exact Nat.le_refl _ | decide) (by first | exact Nat.le_refl _ | decide)
  · refine lv_iconst (v := nI (1)) F.x F.b dX5_isOver_8 (by decide) ?_
    refine lv_goto (tgt := 13) F.x F.b dX5_isOver_9 (by decide) ?_
    exact g_zret (u := S) F I (by first | exact bI_01 _ | exact Or.inl rfl | exact Or.inr rfl) (by exact ⟨by simp [bI, nI_0, nI1, *]; try omega, rfl⟩) dX5_isOver_13 (by first | exact Nat.le_refl _ | decide) (by first | exact Nat.le_refl _ | decide)

theorem hd_pt27_isOver : yX7_isOver.cls ≠ "java/lang/invoke/MethodHandle" ∧ yX7_isOver.cls ≠ "java/lang/invoke/VarHandle" ∧ (parseMethodDescriptor yX7_isOver.desc).map (fun d => d.parameters.length) = some 1 := by decide +kernel
set_option maxHeartbeats 4000000 in
theorem pt27_isOver (l : Launch) (G : gG) (o : Nat) (q : Nat → Nat) (S : MS) (Y : va_W) {pa kp pj pf pt pn ph : Nat} {pb : Bool} (sn : Nat)  (hkp : Y[kp]? = some (pa, .inr (4, pF 2 o pj pf pt pn ph pb))) : gMi l yX7_isOver cX7_isOver 2 (some .boolean) ({ frames := 0, cells := 0, slots := 0, locals := 0 } : Room) G [.ref pa, .int (nI (sn))] (cW G o q S Y) (fun S' => cW G o q S' Y) (fun ρ S' => bI (true) = ρ ∧ S = S') := by
  refine gMi_of (by decide) (Nat.le_of_ble_eq_true rfl) ?_
  intro p e s m below meth c ls A F I hl
  have hl : lv_has ls 2 [(0, .ref (pa)), (1, .int (nI (sn)))] := hl
  refine lv_iconst (v := nI (1)) F.x F.b dX7_isOver_0 (by decide) ?_
  exact g_zret (u := S) F I (by first | exact bI_01 _ | exact Or.inl rfl | exact Or.inr rfl) (by exact ⟨rfl, rfl⟩) dX7_isOver_1 (by first | exact Nat.le_refl _ | decide) (by first | exact Nat.le_refl _ | decide)

theorem hd_pt05_isOpen : yX5_isOpen.cls ≠ "java/lang/invoke/MethodHandle" ∧ yX5_isOpen.cls ≠ "java/lang/invoke/VarHandle" ∧ (parseMethodDescriptor yX5_isOpen.desc).map (fun d => d.parameters.length) = some 1 := by decide +kernel
set_option maxHeartbeats 4000000 in
theorem pt05_isOpen (l : Launch) (G : gG) (o : Nat) (q : Nat → Nat) (S : MS) (Y : va_W) {pa kp pj pf pt pn ph : Nat} {pb : Bool} (dd : Nat) (sn : Nat) (hkp : Y[kp]? = some (pa, .inr (2, pF 0 o pj pf pt pn ph pb))) (hdd : dd < 8) (hsn : S.2 1 dd = nI sn) (hs9 : sn < 100) (hph : ph < 100) : gMi l yX5_isOpen cX5_isOpen 2 (some .boolean) ({ frames := 1, cells := 0, slots := 0, locals := 21 } : Room) G [.ref pa, .int (nI (dd))] (cW G o q S Y) (fun S' => cW G o q S' Y) (fun ρ S' => bI (opN 0 ph sn pb) = ρ ∧ S = S') := by
  refine gMi_of (by decide) (Nat.le_of_ble_eq_true rfl) ?_
  intro p e s m below meth c ls A F I hl
  have hl : lv_has ls 2 [(0, .ref (pa)), (1, .int (nI (dd)))] := hl
  refine lv_aload_n F.x F.b dX5_isOpen_0 rfl (lv_at hl 0 rfl) ?_
  refine g_get (C := RX5) (T := TX5) (N := 7) (ci := 2) (v := .int (bI (pb))) F I in_X5 rfl (kp + 4) (c_Y hkp) 5 (by decide) q506 (fun _ h9 => h9) rfl dX5_isOpen_1 ?_
  refine z_ne (tgt := 27) F dX5_isOpen_4 (by decide) (fun c_4 => ?_) (fun c_4 => ?_)
  · refine lv_iconst (v := nI (0)) F.x F.b dX5_isOpen_27 (by decide) ?_
    exact g_zret (u := S) F I (by first | exact bI_01 _ | exact Or.inl rfl | exact Or.inr rfl) (by first | exact ⟨by simp [opN, bI, nI_0, nI1, *], rfl⟩ | exact absurd c_20 (by decide)) dX5_isOpen_28 (by first | exact Nat.le_refl _ | decide) (by first | exact Nat.le_refl _ | decide)
  · refine lv_aload_n F.x F.b dX5_isOpen_7 rfl (lv_at hl 0 rfl) ?_
    refine lv_aload_n F.x F.b dX5_isOpen_8 rfl (lv_at hl 0 rfl) ?_
    refine g_get (C := RX5) (T := TX5) (N := 7) (ci := 2) (v := .ref (o)) F I in_X5 rfl (kp + 4) (c_Y hkp) 6 (by decide) q508 (fun _ h9 => h9) rfl dX5_isOpen_9 ?_
    refine c_getrN F I 1 (by decide) q125 dX5_isOpen_12 ?_
    refine lv_iload_n F.x F.b dX5_isOpen_15 rfl (lv_at hl 1 rfl) ?_
    refine c_ld (v := ((S.2 1) (dd))) F I 1 (by decide) (show dd < 8 by omega) rfl dX5_isOpen_16 ?_
    refine W.val (y := nI (sn)) (by exact hsn) ?_
    refine g_calli I (g_runV (n := 1) (ci := 2) (q0 := kp + 4) (As := [.int (nI (sn))]) (rest := []) F I (pt05_isOver l G o q (S) Y (sn)  (by exact hkp) (by omega) (by omega) _) q285 q286 q287 q74 q293 ⟨rfl, hd_pt05_isOver⟩ ⟨Nat.le_of_ble_eq_true rfl, Nat.le_of_ble_eq_true rfl⟩ rfl (c_Y hkp) rfl rfl hl.1 rfl (lv_room (Nat.le_of_ble_eq_true rfl)) dX5_isOpen_17 ⟨by first | exact Nat.le_refl _ | decide, by first | exact Nat.le_refl _ | decide⟩) (fun r u_ H locs hp I => ?_)
    obtain ⟨rfl, rfl⟩ := hp
    refine z_eq (tgt := 27) F dX5_isOpen_20 (by decide) (fun c_20 => ?_) (fun c_20 => ?_)
    · refine lv_iconst (v := nI (0)) F.x F.b dX5_isOpen_27 (by decide) ?_
      exact g_zret (u := S) F I (by first | exact bI_01 _ | exact Or.inl rfl | exact Or.inr rfl) (by first | exact ⟨by simp [opN, bI, nI_0, nI1, *], rfl⟩ | exact absurd c_20 (by decide)) dX5_isOpen_28 (by first | exact Nat.le_refl _ | decide) (by first | exact Nat.le_refl _ | decide)
    · refine lv_iconst (v := nI (1)) F.x F.b dX5_isOpen_23 (by decide) ?_
      refine lv_goto (tgt := 28) F.x F.b dX5_isOpen_24 (by decide) ?_
      exact g_zret (u := S) F I (by first | exact bI_01 _ | exact Or.inl rfl | exact Or.inr rfl) (by first | exact ⟨by simp [opN, bI, nI_0, nI1, *], rfl⟩ | exact absurd c_20 (by decide)) dX5_isOpen_28 (by first | exact Nat.le_refl _ | decide) (by first | exact Nat.le_refl _ | decide)

theorem hd_pt05_beyond : yX5_beyond.cls ≠ "java/lang/invoke/MethodHandle" ∧ yX5_beyond.cls ≠ "java/lang/invoke/VarHandle" ∧ (parseMethodDescriptor yX5_beyond.desc).map (fun d => d.parameters.length) = some 1 := by decide +kernel
set_option maxHeartbeats 4000000 in
theorem pt05_beyond (l : Launch) (G : gG) (o : Nat) (q : Nat → Nat) (S : MS) (Y : va_W) {pa kp pj pf pt pn ph : Nat} {pb : Bool} (vv : Nat)  (hkp : Y[kp]? = some (pa, .inr (2, pF 0 o pj pf pt pn ph pb))) (hvv : vv < 3) (hpf : pf < 3) (hpt : pt < 3) : gMi l yX5_beyond cX5_beyond 2 (some .int) ({ frames := 0, cells := 0, slots := 0, locals := 0 } : Room) G [.ref pa, .int (nI (vv))] (cW G o q S Y) (fun S' => cW G o q S' Y) (fun ρ S' => eN (ovN pf pt vv) = ρ ∧ S = S') := by
  refine gMi_of (by decide) (Nat.le_of_ble_eq_true rfl) ?_
  intro p e s m below meth c ls A F I hl
  have hl : lv_has ls 2 [(0, .ref (pa)), (1, .int (nI (vv)))] := hl
  refine lv_iload_n F.x F.b dX5_beyond_0 rfl (lv_at hl 1 rfl) ?_
  refine lv_aload_n F.x F.b dX5_beyond_1 rfl (lv_at hl 0 rfl) ?_
  refine g_get (C := RX5) (T := TX5) (N := 7) (ci := 2) (v := .int (nI (pf))) F I in_X5 rfl (kp + 4) (c_Y hkp) 1 (by decide) q498 (fun _ h9 => h9) rfl dX5_beyond_2 ?_
  refine n_icmp_ne (tgt := 15) F (by omega) (by omega) dX5_beyond_5 (by decide) (fun c_5 => ?_) (fun c_5 => ?_)
  · refine lv_iload_n F.x F.b dX5_beyond_15 rfl (lv_at hl 1 rfl) ?_
    refine lv_aload_n F.x F.b dX5_beyond_16 rfl (lv_at hl 0 rfl) ?_
    refine g_get (C := RX5) (T := TX5) (N := 7) (ci := 2) (v := .int (nI (pt))) F I in_X5 rfl (kp + 4) (c_Y hkp) 2 (by decide) q500 (fun _ h9 => h9) rfl dX5_beyond_17 ?_
    refine n_icmp_ne (tgt := 30) F (by omega) (by omega) dX5_beyond_20 (by decide) (fun c_20 => ?_) (fun c_20 => ?_)
    · refine lv_bipush (v := (-9)) F.x F.b dX5_beyond_30 (by decide) ?_
      exact g_iret (u := S) F I (by exact ⟨by unfold ovN; first | rw [if_pos (by omega), eN_i (by omega)] | rw [if_neg (by omega), if_pos (by omega), eN_i (by omega)] | rw [if_neg (by omega), if_neg (by omega), eN_99], rfl⟩) dX5_beyond_32 (by first | exact Nat.le_refl _ | decide) (by first | exact Nat.le_refl _ | decide)
    · refine lv_aload_n F.x F.b dX5_beyond_23 rfl (lv_at hl 0 rfl) ?_
      refine g_get (C := RX5) (T := TX5) (N := 7) (ci := 2) (v := .int (nI (pf))) F I in_X5 rfl (kp + 4) (c_Y hkp) 1 (by decide) q498 (fun _ h9 => h9) rfl dX5_beyond_24 ?_
      refine lv_goto (tgt := 32) F.x F.b dX5_beyond_27 (by decide) ?_
      exact g_iret (u := S) F I (by exact ⟨by unfold ovN; first | rw [if_pos (by omega), eN_i (by omega)] | rw [if_neg (by omega), if_pos (by omega), eN_i (by omega)] | rw [if_neg (by omega), if_neg (by omega), eN_99], rfl⟩) dX5_beyond_32 (by first | exact Nat.le_refl _ | decide) (by first | exact Nat.le_refl _ | decide)
  · refine lv_aload_n F.x F.b dX5_beyond_8 rfl (lv_at hl 0 rfl) ?_
    refine g_get (C := RX5) (T := TX5) (N := 7) (ci := 2) (v := .int (nI (pt))) F I in_X5 rfl (kp + 4) (c_Y hkp) 2 (by decide) q500 (fun _ h9 => h9) rfl dX5_beyond_9 ?_
    refine lv_goto (tgt := 32) F.x F.b dX5_beyond_12 (by decide) ?_
    exact g_iret (u := S) F I (by exact ⟨by unfold ovN; first | rw [if_pos (by omega), eN_i (by omega)] | rw [if_neg (by omega), if_pos (by omega), eN_i (by omega)] | rw [if_neg (by omega), if_neg (by omega), eN_99], rfl⟩) dX5_beyond_32 (by first | exact Nat.le_refl _ | decide) (by first | exact Nat.le_refl _ | decide)

theorem hd_pt15_isOpen : yX5_isOpen.cls ≠ "java/lang/invoke/MethodHandle" ∧ yX5_isOpen.cls ≠ "java/lang/invoke/VarHandle" ∧ (parseMethodDescriptor yX5_isOpen.desc).map (fun d => d.parameters.length) = some 1 := by decide +kernel
set_option maxHeartbeats 4000000 in
theorem pt15_isOpen (l : Launch) (G : gG) (o : Nat) (q : Nat → Nat) (S : MS) (Y : va_W) {pa kp pj pf pt pn ph : Nat} {pb : Bool} (dd : Nat) (sn : Nat) (hkp : Y[kp]? = some (pa, .inr (3, pF 1 o pj pf pt pn ph pb))) (hdd : dd < 8) (hsn : S.2 1 dd = nI sn) (hs9 : sn < 100) (hph : ph < 100) : gMi l yX5_isOpen cX5_isOpen 2 (some .boolean) ({ frames := 1, cells := 0, slots := 0, locals := 21 } : Room) G [.ref pa, .int (nI (dd))] (cW G o q S Y) (fun S' => cW G o q S' Y) (fun ρ S' => bI (opN 1 ph sn pb) = ρ ∧ S = S') := by
  refine gMi_of (by decide) (Nat.le_of_ble_eq_true rfl) ?_
  intro p e s m below meth c ls A F I hl
  have hl : lv_has ls 2 [(0, .ref (pa)), (1, .int (nI (dd)))] := hl
  refine lv_aload_n F.x F.b dX5_isOpen_0 rfl (lv_at hl 0 rfl) ?_
  refine g_get (C := RX6) (T := TX6) (N := 8) (ci := 3) (v := .int (bI (pb))) F I in_X6 rfl (kp + 4) (c_Y hkp) 5 (by decide) q506 (fun _ h9 => h9) rfl dX5_isOpen_1 ?_
  refine z_ne (tgt := 27) F dX5_isOpen_4 (by decide) (fun c_4 => ?_) (fun c_4 => ?_)
  · refine lv_iconst (v := nI (0)) F.x F.b dX5_isOpen_27 (by decide) ?_
    exact g_zret (u := S) F I (by first | exact bI_01 _ | exact Or.inl rfl | exact Or.inr rfl) (by first | exact ⟨by simp [opN, bI, nI_0, nI1, *], rfl⟩ | exact absurd c_20 (by decide)) dX5_isOpen_28 (by first | exact Nat.le_refl _ | decide) (by first | exact Nat.le_refl _ | decide)
  · refine lv_aload_n F.x F.b dX5_isOpen_7 rfl (lv_at hl 0 rfl) ?_
    refine lv_aload_n F.x F.b dX5_isOpen_8 rfl (lv_at hl 0 rfl) ?_
    refine g_get (C := RX6) (T := TX6) (N := 8) (ci := 3) (v := .ref (o)) F I in_X6 rfl (kp + 4) (c_Y hkp) 6 (by decide) q508 (fun _ h9 => h9) rfl dX5_isOpen_9 ?_
    refine c_getrN F I 1 (by decide) q125 dX5_isOpen_12 ?_
    refine lv_iload_n F.x F.b dX5_isOpen_15 rfl (lv_at hl 1 rfl) ?_
    refine c_ld (v := ((S.2 1) (dd))) F I 1 (by decide) (show dd < 8 by omega) rfl dX5_isOpen_16 ?_
    refine W.val (y := nI (sn)) (by exact hsn) ?_
    refine g_calli I (g_runU (owner := "CheeseValleys$Pass") (n := 1) (ci := 3) (q0 := kp + 4) (As := [.int (nI (sn))]) (rest := []) F I (pt15_isOver l G o q (S) Y (sn)  (by exact hkp) (by omega) (by omega) _) q285 q288 q289 q286 q74 q293 rfl hd_pt15_isOver ⟨Nat.le_of_ble_eq_true rfl, Nat.le_of_ble_eq_true rfl⟩ rfl (c_Y hkp) rfl rfl hl.1 rfl (lv_room (Nat.le_of_ble_eq_true rfl)) dX5_isOpen_17 ⟨by first | exact Nat.le_refl _ | decide, by first | exact Nat.le_refl _ | decide⟩) (fun r u_ H locs hp I => ?_)
    obtain ⟨rfl, rfl⟩ := hp
    refine z_eq (tgt := 27) F dX5_isOpen_20 (by decide) (fun c_20 => ?_) (fun c_20 => ?_)
    · refine lv_iconst (v := nI (0)) F.x F.b dX5_isOpen_27 (by decide) ?_
      exact g_zret (u := S) F I (by first | exact bI_01 _ | exact Or.inl rfl | exact Or.inr rfl) (by first | exact ⟨by simp [opN, bI, nI_0, nI1, *], rfl⟩ | exact absurd c_20 (by decide)) dX5_isOpen_28 (by first | exact Nat.le_refl _ | decide) (by first | exact Nat.le_refl _ | decide)
    · refine lv_iconst (v := nI (1)) F.x F.b dX5_isOpen_23 (by decide) ?_
      refine lv_goto (tgt := 28) F.x F.b dX5_isOpen_24 (by decide) ?_
      exact g_zret (u := S) F I (by first | exact bI_01 _ | exact Or.inl rfl | exact Or.inr rfl) (by first | exact ⟨by simp [opN, bI, nI_0, nI1, *], rfl⟩ | exact absurd c_20 (by decide)) dX5_isOpen_28 (by first | exact Nat.le_refl _ | decide) (by first | exact Nat.le_refl _ | decide)

theorem hd_pt15_beyond : yX5_beyond.cls ≠ "java/lang/invoke/MethodHandle" ∧ yX5_beyond.cls ≠ "java/lang/invoke/VarHandle" ∧ (parseMethodDescriptor yX5_beyond.desc).map (fun d => d.parameters.length) = some 1 := by decide +kernel
set_option maxHeartbeats 4000000 in
theorem pt15_beyond (l : Launch) (G : gG) (o : Nat) (q : Nat → Nat) (S : MS) (Y : va_W) {pa kp pj pf pt pn ph : Nat} {pb : Bool} (vv : Nat)  (hkp : Y[kp]? = some (pa, .inr (3, pF 1 o pj pf pt pn ph pb))) (hvv : vv < 3) (hpf : pf < 3) (hpt : pt < 3) : gMi l yX5_beyond cX5_beyond 2 (some .int) ({ frames := 0, cells := 0, slots := 0, locals := 0 } : Room) G [.ref pa, .int (nI (vv))] (cW G o q S Y) (fun S' => cW G o q S' Y) (fun ρ S' => eN (ovN pf pt vv) = ρ ∧ S = S') := by
  refine gMi_of (by decide) (Nat.le_of_ble_eq_true rfl) ?_
  intro p e s m below meth c ls A F I hl
  have hl : lv_has ls 2 [(0, .ref (pa)), (1, .int (nI (vv)))] := hl
  refine lv_iload_n F.x F.b dX5_beyond_0 rfl (lv_at hl 1 rfl) ?_
  refine lv_aload_n F.x F.b dX5_beyond_1 rfl (lv_at hl 0 rfl) ?_
  refine g_get (C := RX6) (T := TX6) (N := 8) (ci := 3) (v := .int (nI (pf))) F I in_X6 rfl (kp + 4) (c_Y hkp) 1 (by decide) q498 (fun _ h9 => h9) rfl dX5_beyond_2 ?_
  refine n_icmp_ne (tgt := 15) F (by omega) (by omega) dX5_beyond_5 (by decide) (fun c_5 => ?_) (fun c_5 => ?_)
  · refine lv_iload_n F.x F.b dX5_beyond_15 rfl (lv_at hl 1 rfl) ?_
    refine lv_aload_n F.x F.b dX5_beyond_16 rfl (lv_at hl 0 rfl) ?_
    refine g_get (C := RX6) (T := TX6) (N := 8) (ci := 3) (v := .int (nI (pt))) F I in_X6 rfl (kp + 4) (c_Y hkp) 2 (by decide) q500 (fun _ h9 => h9) rfl dX5_beyond_17 ?_
    refine n_icmp_ne (tgt := 30) F (by omega) (by omega) dX5_beyond_20 (by decide) (fun c_20 => ?_) (fun c_20 => ?_)
    · refine lv_bipush (v := (-9)) F.x F.b dX5_beyond_30 (by decide) ?_
      exact g_iret (u := S) F I (by exact ⟨by unfold ovN; first | rw [if_pos (by omega), eN_i (by omega)] | rw [if_neg (by omega), if_pos (by omega), eN_i (by omega)] | rw [if_neg (by omega), if_neg (by omega), eN_99], rfl⟩) dX5_beyond_32 (by first | exact Nat.le_refl _ | decide) (by first | exact Nat.le_refl _ | decide)
    · refine lv_aload_n F.x F.b dX5_beyond_23 rfl (lv_at hl 0 rfl) ?_
      refine g_get (C := RX6) (T := TX6) (N := 8) (ci := 3) (v := .int (nI (pf))) F I in_X6 rfl (kp + 4) (c_Y hkp) 1 (by decide) q498 (fun _ h9 => h9) rfl dX5_beyond_24 ?_
      refine lv_goto (tgt := 32) F.x F.b dX5_beyond_27 (by decide) ?_
      exact g_iret (u := S) F I (by exact ⟨by unfold ovN; first | rw [if_pos (by omega), eN_i (by omega)] | rw [if_neg (by omega), if_pos (by omega), eN_i (by omega)] | rw [if_neg (by omega), if_neg (by omega), eN_99], rfl⟩) dX5_beyond_32 (by first | exact Nat.le_refl _ | decide) (by first | exact Nat.le_refl _ | decide)
  · refine lv_aload_n F.x F.b dX5_beyond_8 rfl (lv_at hl 0 rfl) ?_
    refine g_get (C := RX6) (T := TX6) (N := 8) (ci := 3) (v := .int (nI (pt))) F I in_X6 rfl (kp + 4) (c_Y hkp) 2 (by decide) q500 (fun _ h9 => h9) rfl dX5_beyond_9 ?_
    refine lv_goto (tgt := 32) F.x F.b dX5_beyond_12 (by decide) ?_
    exact g_iret (u := S) F I (by exact ⟨by unfold ovN; first | rw [if_pos (by omega), eN_i (by omega)] | rw [if_neg (by omega), if_pos (by omega), eN_i (by omega)] | rw [if_neg (by omega), if_neg (by omega), eN_99], rfl⟩) dX5_beyond_32 (by first | exact Nat.le_refl _ | decide) (by first | exact Nat.le_refl _ | decide)

theorem hd_pt25_isOpen : yX5_isOpen.cls ≠ "java/lang/invoke/MethodHandle" ∧ yX5_isOpen.cls ≠ "java/lang/invoke/VarHandle" ∧ (parseMethodDescriptor yX5_isOpen.desc).map (fun d => d.parameters.length) = some 1 := by decide +kernel
set_option maxHeartbeats 4000000 in
theorem pt25_isOpen (l : Launch) (G : gG) (o : Nat) (q : Nat → Nat) (S : MS) (Y : va_W) {pa kp pj pf pt pn ph : Nat} {pb : Bool} (dd : Nat) (sn : Nat) (hkp : Y[kp]? = some (pa, .inr (4, pF 2 o pj pf pt pn ph pb))) (hdd : dd < 8) (hsn : S.2 1 dd = nI sn) (hs9 : sn < 100) (hph : ph < 100) : gMi l yX5_isOpen cX5_isOpen 2 (some .boolean) ({ frames := 1, cells := 0, slots := 0, locals := 21 } : Room) G [.ref pa, .int (nI (dd))] (cW G o q S Y) (fun S' => cW G o q S' Y) (fun ρ S' => bI (opN 2 ph sn pb) = ρ ∧ S = S') := by
  refine gMi_of (by decide) (Nat.le_of_ble_eq_true rfl) ?_
  intro p e s m below meth c ls A F I hl
  have hl : lv_has ls 2 [(0, .ref (pa)), (1, .int (nI (dd)))] := hl
  refine lv_aload_n F.x F.b dX5_isOpen_0 rfl (lv_at hl 0 rfl) ?_
  refine g_get (C := RX7) (T := TX7) (N := 9) (ci := 4) (v := .int (bI (pb))) F I in_X7 rfl (kp + 4) (c_Y hkp) 5 (by decide) q506 (fun _ h9 => h9) rfl dX5_isOpen_1 ?_
  refine z_ne (tgt := 27) F dX5_isOpen_4 (by decide) (fun c_4 => ?_) (fun c_4 => ?_)
  · refine lv_iconst (v := nI (0)) F.x F.b dX5_isOpen_27 (by decide) ?_
    exact g_zret (u := S) F I (by first | exact bI_01 _ | exact Or.inl rfl | exact Or.inr rfl) (by first | exact ⟨by simp [opN, bI, nI_0, nI1, *], rfl⟩ | exact absurd c_20 (by decide)) dX5_isOpen_28 (by first | exact Nat.le_refl _ | decide) (by first | exact Nat.le_refl _ | decide)
  · refine lv_aload_n F.x F.b dX5_isOpen_7 rfl (lv_at hl 0 rfl) ?_
    refine lv_aload_n F.x F.b dX5_isOpen_8 rfl (lv_at hl 0 rfl) ?_
    refine g_get (C := RX7) (T := TX7) (N := 9) (ci := 4) (v := .ref (o)) F I in_X7 rfl (kp + 4) (c_Y hkp) 6 (by decide) q508 (fun _ h9 => h9) rfl dX5_isOpen_9 ?_
    refine c_getrN F I 1 (by decide) q125 dX5_isOpen_12 ?_
    refine lv_iload_n F.x F.b dX5_isOpen_15 rfl (lv_at hl 1 rfl) ?_
    refine c_ld (v := ((S.2 1) (dd))) F I 1 (by decide) (show dd < 8 by omega) rfl dX5_isOpen_16 ?_
    refine W.val (y := nI (sn)) (by exact hsn) ?_
    refine g_calli I (g_runO (owner := "CheeseValleys$Pass") (n := 1) (ci := 4) (q0 := kp + 4) (As := [.int (nI (sn))]) (rest := []) F I (pt27_isOver l G o q (S) Y (sn)  (by exact hkp) _) q285 q288 q286 q290 q291 q76 q292 q293 (by decide +kernel) ⟨Nat.le_of_ble_eq_true rfl, Nat.le_of_ble_eq_true rfl⟩ rfl (c_Y hkp) rfl rfl hl.1 rfl (lv_room (Nat.le_of_ble_eq_true rfl)) dX5_isOpen_17 ⟨by first | exact Nat.le_refl _ | decide, by first | exact Nat.le_refl _ | decide⟩) (fun r u_ H locs hp I => ?_)
    obtain ⟨rfl, rfl⟩ := hp
    refine z_eq (tgt := 27) F dX5_isOpen_20 (by decide) (fun c_20 => absurd c_20 (by decide)) (fun c_20 => ?_)
    refine lv_iconst (v := nI (1)) F.x F.b dX5_isOpen_23 (by decide) ?_
    refine lv_goto (tgt := 28) F.x F.b dX5_isOpen_24 (by decide) ?_
    exact g_zret (u := S) F I (by first | exact bI_01 _ | exact Or.inl rfl | exact Or.inr rfl) (by first | exact ⟨by simp [opN, bI, nI_0, nI1, *], rfl⟩ | exact absurd c_20 (by decide)) dX5_isOpen_28 (by first | exact Nat.le_refl _ | decide) (by first | exact Nat.le_refl _ | decide)

theorem hd_pt25_beyond : yX5_beyond.cls ≠ "java/lang/invoke/MethodHandle" ∧ yX5_beyond.cls ≠ "java/lang/invoke/VarHandle" ∧ (parseMethodDescriptor yX5_beyond.desc).map (fun d => d.parameters.length) = some 1 := by decide +kernel
set_option maxHeartbeats 4000000 in
theorem pt25_beyond (l : Launch) (G : gG) (o : Nat) (q : Nat → Nat) (S : MS) (Y : va_W) {pa kp pj pf pt pn ph : Nat} {pb : Bool} (vv : Nat)  (hkp : Y[kp]? = some (pa, .inr (4, pF 2 o pj pf pt pn ph pb))) (hvv : vv < 3) (hpf : pf < 3) (hpt : pt < 3) : gMi l yX5_beyond cX5_beyond 2 (some .int) ({ frames := 0, cells := 0, slots := 0, locals := 0 } : Room) G [.ref pa, .int (nI (vv))] (cW G o q S Y) (fun S' => cW G o q S' Y) (fun ρ S' => eN (ovN pf pt vv) = ρ ∧ S = S') := by
  refine gMi_of (by decide) (Nat.le_of_ble_eq_true rfl) ?_
  intro p e s m below meth c ls A F I hl
  have hl : lv_has ls 2 [(0, .ref (pa)), (1, .int (nI (vv)))] := hl
  refine lv_iload_n F.x F.b dX5_beyond_0 rfl (lv_at hl 1 rfl) ?_
  refine lv_aload_n F.x F.b dX5_beyond_1 rfl (lv_at hl 0 rfl) ?_
  refine g_get (C := RX7) (T := TX7) (N := 9) (ci := 4) (v := .int (nI (pf))) F I in_X7 rfl (kp + 4) (c_Y hkp) 1 (by decide) q498 (fun _ h9 => h9) rfl dX5_beyond_2 ?_
  refine n_icmp_ne (tgt := 15) F (by omega) (by omega) dX5_beyond_5 (by decide) (fun c_5 => ?_) (fun c_5 => ?_)
  · refine lv_iload_n F.x F.b dX5_beyond_15 rfl (lv_at hl 1 rfl) ?_
    refine lv_aload_n F.x F.b dX5_beyond_16 rfl (lv_at hl 0 rfl) ?_
    refine g_get (C := RX7) (T := TX7) (N := 9) (ci := 4) (v := .int (nI (pt))) F I in_X7 rfl (kp + 4) (c_Y hkp) 2 (by decide) q500 (fun _ h9 => h9) rfl dX5_beyond_17 ?_
    refine n_icmp_ne (tgt := 30) F (by omega) (by omega) dX5_beyond_20 (by decide) (fun c_20 => ?_) (fun c_20 => ?_)
    · refine lv_bipush (v := (-9)) F.x F.b dX5_beyond_30 (by decide) ?_
      exact g_iret (u := S) F I (by exact ⟨by unfold ovN; first | rw [if_pos (by omega), eN_i (by omega)] | rw [if_neg (by omega), if_pos (by omega), eN_i (by omega)] | rw [if_neg (by omega), if_neg (by omega), eN_99], rfl⟩) dX5_beyond_32 (by first | exact Nat.le_refl _ | decide) (by first | exact Nat.le_refl _ | decide)
    · refine lv_aload_n F.x F.b dX5_beyond_23 rfl (lv_at hl 0 rfl) ?_
      refine g_get (C := RX7) (T := TX7) (N := 9) (ci := 4) (v := .int (nI (pf))) F I in_X7 rfl (kp + 4) (c_Y hkp) 1 (by decide) q498 (fun _ h9 => h9) rfl dX5_beyond_24 ?_
      refine lv_goto (tgt := 32) F.x F.b dX5_beyond_27 (by decide) ?_
      exact g_iret (u := S) F I (by exact ⟨by unfold ovN; first | rw [if_pos (by omega), eN_i (by omega)] | rw [if_neg (by omega), if_pos (by omega), eN_i (by omega)] | rw [if_neg (by omega), if_neg (by omega), eN_99], rfl⟩) dX5_beyond_32 (by first | exact Nat.le_refl _ | decide) (by first | exact Nat.le_refl _ | decide)
  · refine lv_aload_n F.x F.b dX5_beyond_8 rfl (lv_at hl 0 rfl) ?_
    refine g_get (C := RX7) (T := TX7) (N := 9) (ci := 4) (v := .int (nI (pt))) F I in_X7 rfl (kp + 4) (c_Y hkp) 2 (by decide) q500 (fun _ h9 => h9) rfl dX5_beyond_9 ?_
    refine lv_goto (tgt := 32) F.x F.b dX5_beyond_12 (by decide) ?_
    exact g_iret (u := S) F I (by exact ⟨by unfold ovN; first | rw [if_pos (by omega), eN_i (by omega)] | rw [if_neg (by omega), if_pos (by omega), eN_i (by omega)] | rw [if_neg (by omega), if_neg (by omega), eN_99], rfl⟩) dX5_beyond_32 (by first | exact Nat.le_refl _ | decide) (by first | exact Nat.le_refl _ | decide)

theorem hd_pt05_tracedBy : yX5_tracedBy.cls ≠ "java/lang/invoke/MethodHandle" ∧ yX5_tracedBy.cls ≠ "java/lang/invoke/VarHandle" ∧ (parseMethodDescriptor yX5_tracedBy.desc).map (fun d => d.parameters.length) = some 1 := by decide +kernel
set_option maxHeartbeats 4000000 in
theorem pt05_tracedBy (l : Launch) (G : gG) (o : Nat) (q : Nat → Nat) (S : MS) (Y : va_W) {pa kp pj pf pt pn ph : Nat} {pb : Bool} (nn : Int32)  (hkp : Y[kp]? = some (pa, .inr (2, pF 0 o pj pf pt pn ph pb))) : gMi l yX5_tracedBy cX5_tracedBy 2 (some .int) ({ frames := 0, cells := 0, slots := 0, locals := 0 } : Room) G [.ref pa, .int (nn)] (cW G o q S Y) (fun S' => cW G o q S' Y) (fun ρ S' => 0 = ρ ∧ (va_up S.1 0 (31 * S.1 0 + nn), S.2) = S') := by
  refine gMi_of (by decide) (Nat.le_of_ble_eq_true rfl) ?_
  intro p e s m below meth c ls A F I hl
  have hl : lv_has ls 2 [(0, .ref (pa)), (1, .int (nn))] := hl
  refine lv_aload_n F.x F.b dX5_tracedBy_0 rfl (lv_at hl 0 rfl) ?_
  refine g_get (C := RX5) (T := TX5) (N := 7) (ci := 2) (v := .ref (o)) F I in_X5 rfl (kp + 4) (c_Y hkp) 6 (by decide) q508 (fun _ h9 => h9) rfl dX5_tracedBy_1 ?_
  refine lv_bipush (v := nI (31)) F.x F.b dX5_tracedBy_4 (by decide) ?_
  refine lv_aload_n F.x F.b dX5_tracedBy_6 rfl (lv_at hl 0 rfl) ?_
  refine g_get (C := RX5) (T := TX5) (N := 7) (ci := 2) (v := .ref (o)) F I in_X5 rfl (kp + 4) (c_Y hkp) 6 (by decide) q508 (fun _ h9 => h9) rfl dX5_tracedBy_7 ?_
  refine c_getN (v := (S.1 0)) F I 0 (by decide) rfl q122 dX5_tracedBy_10 ?_
  refine lv_imul (x := 31) (y := (S.1 0)) F.x F.b dX5_tracedBy_13 ?_
  refine lv_iload_n F.x F.b dX5_tracedBy_14 rfl (lv_at hl 1 rfl) ?_
  refine lv_iadd (x := (31 * (S.1 0))) (y := nn) F.x F.b dX5_tracedBy_15 ?_
  refine c_putN F I 0 (by decide) q122 dX5_tracedBy_16 (fun H locs (I : Iw G A s (cW G o q (va_up S.1 0 (((31 * (S.1 0)) + nn)), S.2) Y) H locs) => ?_)
  refine lv_iconst (v := nI (0)) F.x F.b dX5_tracedBy_19 (by decide) ?_
  exact g_iret (v := 0) (u := (va_up S.1 0 (((31 * (S.1 0)) + nn)), S.2)) F I (by exact ⟨rfl, rfl⟩) dX5_tracedBy_20 (by first | exact Nat.le_refl _ | decide) (by first | exact Nat.le_refl _ | decide)

theorem hd_pt15_tracedBy : yX5_tracedBy.cls ≠ "java/lang/invoke/MethodHandle" ∧ yX5_tracedBy.cls ≠ "java/lang/invoke/VarHandle" ∧ (parseMethodDescriptor yX5_tracedBy.desc).map (fun d => d.parameters.length) = some 1 := by decide +kernel
set_option maxHeartbeats 4000000 in
theorem pt15_tracedBy (l : Launch) (G : gG) (o : Nat) (q : Nat → Nat) (S : MS) (Y : va_W) {pa kp pj pf pt pn ph : Nat} {pb : Bool} (nn : Int32)  (hkp : Y[kp]? = some (pa, .inr (3, pF 1 o pj pf pt pn ph pb))) : gMi l yX5_tracedBy cX5_tracedBy 2 (some .int) ({ frames := 0, cells := 0, slots := 0, locals := 0 } : Room) G [.ref pa, .int (nn)] (cW G o q S Y) (fun S' => cW G o q S' Y) (fun ρ S' => 0 = ρ ∧ (va_up S.1 0 (31 * S.1 0 + nn), S.2) = S') := by
  refine gMi_of (by decide) (Nat.le_of_ble_eq_true rfl) ?_
  intro p e s m below meth c ls A F I hl
  have hl : lv_has ls 2 [(0, .ref (pa)), (1, .int (nn))] := hl
  refine lv_aload_n F.x F.b dX5_tracedBy_0 rfl (lv_at hl 0 rfl) ?_
  refine g_get (C := RX6) (T := TX6) (N := 8) (ci := 3) (v := .ref (o)) F I in_X6 rfl (kp + 4) (c_Y hkp) 6 (by decide) q508 (fun _ h9 => h9) rfl dX5_tracedBy_1 ?_
  refine lv_bipush (v := nI (31)) F.x F.b dX5_tracedBy_4 (by decide) ?_
  refine lv_aload_n F.x F.b dX5_tracedBy_6 rfl (lv_at hl 0 rfl) ?_
  refine g_get (C := RX6) (T := TX6) (N := 8) (ci := 3) (v := .ref (o)) F I in_X6 rfl (kp + 4) (c_Y hkp) 6 (by decide) q508 (fun _ h9 => h9) rfl dX5_tracedBy_7 ?_
  refine c_getN (v := (S.1 0)) F I 0 (by decide) rfl q122 dX5_tracedBy_10 ?_
  refine lv_imul (x := 31) (y := (S.1 0)) F.x F.b dX5_tracedBy_13 ?_
  refine lv_iload_n F.x F.b dX5_tracedBy_14 rfl (lv_at hl 1 rfl) ?_
  refine lv_iadd (x := (31 * (S.1 0))) (y := nn) F.x F.b dX5_tracedBy_15 ?_
  refine c_putN F I 0 (by decide) q122 dX5_tracedBy_16 (fun H locs (I : Iw G A s (cW G o q (va_up S.1 0 (((31 * (S.1 0)) + nn)), S.2) Y) H locs) => ?_)
  refine lv_iconst (v := nI (0)) F.x F.b dX5_tracedBy_19 (by decide) ?_
  exact g_iret (v := 0) (u := (va_up S.1 0 (((31 * (S.1 0)) + nn)), S.2)) F I (by exact ⟨rfl, rfl⟩) dX5_tracedBy_20 (by first | exact Nat.le_refl _ | decide) (by first | exact Nat.le_refl _ | decide)

theorem hd_pt25_tracedBy : yX5_tracedBy.cls ≠ "java/lang/invoke/MethodHandle" ∧ yX5_tracedBy.cls ≠ "java/lang/invoke/VarHandle" ∧ (parseMethodDescriptor yX5_tracedBy.desc).map (fun d => d.parameters.length) = some 1 := by decide +kernel
set_option maxHeartbeats 4000000 in
theorem pt25_tracedBy (l : Launch) (G : gG) (o : Nat) (q : Nat → Nat) (S : MS) (Y : va_W) {pa kp pj pf pt pn ph : Nat} {pb : Bool} (nn : Int32)  (hkp : Y[kp]? = some (pa, .inr (4, pF 2 o pj pf pt pn ph pb))) : gMi l yX5_tracedBy cX5_tracedBy 2 (some .int) ({ frames := 0, cells := 0, slots := 0, locals := 0 } : Room) G [.ref pa, .int (nn)] (cW G o q S Y) (fun S' => cW G o q S' Y) (fun ρ S' => 0 = ρ ∧ (va_up S.1 0 (31 * S.1 0 + nn), S.2) = S') := by
  refine gMi_of (by decide) (Nat.le_of_ble_eq_true rfl) ?_
  intro p e s m below meth c ls A F I hl
  have hl : lv_has ls 2 [(0, .ref (pa)), (1, .int (nn))] := hl
  refine lv_aload_n F.x F.b dX5_tracedBy_0 rfl (lv_at hl 0 rfl) ?_
  refine g_get (C := RX7) (T := TX7) (N := 9) (ci := 4) (v := .ref (o)) F I in_X7 rfl (kp + 4) (c_Y hkp) 6 (by decide) q508 (fun _ h9 => h9) rfl dX5_tracedBy_1 ?_
  refine lv_bipush (v := nI (31)) F.x F.b dX5_tracedBy_4 (by decide) ?_
  refine lv_aload_n F.x F.b dX5_tracedBy_6 rfl (lv_at hl 0 rfl) ?_
  refine g_get (C := RX7) (T := TX7) (N := 9) (ci := 4) (v := .ref (o)) F I in_X7 rfl (kp + 4) (c_Y hkp) 6 (by decide) q508 (fun _ h9 => h9) rfl dX5_tracedBy_7 ?_
  refine c_getN (v := (S.1 0)) F I 0 (by decide) rfl q122 dX5_tracedBy_10 ?_
  refine lv_imul (x := 31) (y := (S.1 0)) F.x F.b dX5_tracedBy_13 ?_
  refine lv_iload_n F.x F.b dX5_tracedBy_14 rfl (lv_at hl 1 rfl) ?_
  refine lv_iadd (x := (31 * (S.1 0))) (y := nn) F.x F.b dX5_tracedBy_15 ?_
  refine c_putN F I 0 (by decide) q122 dX5_tracedBy_16 (fun H locs (I : Iw G A s (cW G o q (va_up S.1 0 (((31 * (S.1 0)) + nn)), S.2) Y) H locs) => ?_)
  refine lv_iconst (v := nI (0)) F.x F.b dX5_tracedBy_19 (by decide) ?_
  exact g_iret (v := 0) (u := (va_up S.1 0 (((31 * (S.1 0)) + nn)), S.2)) F I (by exact ⟨rfl, rfl⟩) dX5_tracedBy_20 (by first | exact Nat.le_refl _ | decide) (by first | exact Nat.le_refl _ | decide)
