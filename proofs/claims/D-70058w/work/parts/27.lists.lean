/-! THE JDK's lists -/
set_option maxRecDepth 100000

theorem hd_lt_size : yJ2_size.cls ≠ "java/lang/invoke/MethodHandle" ∧ yJ2_size.cls ≠ "java/lang/invoke/VarHandle" ∧ (parseMethodDescriptor yJ2_size.desc).map (fun d => d.parameters.length) = some 0 := by decide +kernel
set_option maxHeartbeats 4000000 in
theorem lt_size (l : Launch) (G : gG) (ws : va_W) {a e_ : Nat} {mc sz : Int32} (ka : Nat) (hka : ws[ka]? = some (a, .inr (5, [.int mc, .ref e_, .int sz]))) : gMi l yJ2_size cJ2_size 1 (some .int) ({ frames := 0, cells := 0, slots := 0, locals := 0 } : Room) G [.ref (a)] ws (fun _ : Unit => ws) (fun ρ _ => sz = ρ) := by
  refine gMi_of (by decide) (Nat.le_of_ble_eq_true rfl) ?_
  intro p e s m below meth c ls A F I hl
  have hl : lv_has ls 1 [(0, .ref (a))] := hl
  refine lv_aload_n F.x F.b dJ2_size_0 rfl (lv_at hl 0 rfl) ?_
  refine g_get (C := RJ2) (T := TJ2) (N := 3) (ci := 5) (v := .int (sz)) F I in_J2 rfl ka hka 2 (by decide) q108 (fun _ h9 => h9) rfl dJ2_size_1 ?_
  exact g_iret (u := ()) F I (by rfl) dJ2_size_4 (by first | exact Nat.le_refl _ | decide) (by first | exact Nat.le_refl _ | decide)

theorem hd_lt_isEmpty : yJ2_isEmpty.cls ≠ "java/lang/invoke/MethodHandle" ∧ yJ2_isEmpty.cls ≠ "java/lang/invoke/VarHandle" ∧ (parseMethodDescriptor yJ2_isEmpty.desc).map (fun d => d.parameters.length) = some 0 := by decide +kernel
set_option maxHeartbeats 4000000 in
theorem lt_isEmpty (l : Launch) (G : gG) (ws : va_W) {a e_ : Nat} {mc sz : Int32} (ka : Nat) (hka : ws[ka]? = some (a, .inr (5, [.int mc, .ref e_, .int sz]))) : gMi l yJ2_isEmpty cJ2_isEmpty 1 (some .boolean) ({ frames := 0, cells := 0, slots := 0, locals := 0 } : Room) G [.ref (a)] ws (fun _ : Unit => ws) (fun ρ _ => bI (decide (sz = 0)) = ρ) := by
  refine gMi_of (by decide) (Nat.le_of_ble_eq_true rfl) ?_
  intro p e s m below meth c ls A F I hl
  have hl : lv_has ls 1 [(0, .ref (a))] := hl
  refine lv_aload_n F.x F.b dJ2_isEmpty_0 rfl (lv_at hl 0 rfl) ?_
  refine g_get (C := RJ2) (T := TJ2) (N := 3) (ci := 5) (v := .int (sz)) F I in_J2 rfl ka hka 2 (by decide) q108 (fun _ h9 => h9) rfl dJ2_isEmpty_1 ?_
  refine lv_if_ne (x := sz) (tgt := 11) F.x F.b dJ2_isEmpty_4 (by decide) (fun c_4 => ?_) (fun c_4 => ?_)
  · refine lv_iconst (v := nI (0)) F.x F.b dJ2_isEmpty_11 (by decide) ?_
    exact g_zret (u := ()) F I (by first | exact bI_01 _ | exact Or.inl rfl | exact Or.inr rfl) (by simp [bI, nI_0, nI1, *]) dJ2_isEmpty_12 (by first | exact Nat.le_refl _ | decide) (by first | exact Nat.le_refl _ | decide)
  · refine lv_iconst (v := nI (1)) F.x F.b dJ2_isEmpty_7 (by decide) ?_
    refine lv_goto (tgt := 12) F.x F.b dJ2_isEmpty_8 (by decide) ?_
    exact g_zret (u := ()) F I (by first | exact bI_01 _ | exact Or.inl rfl | exact Or.inr rfl) (by simp [bI, nI_0, nI1, *]) dJ2_isEmpty_12 (by first | exact Nat.le_refl _ | decide) (by first | exact Nat.le_refl _ | decide)

theorem hd_lt_pcheck : yJ15_checkIndex.cls ≠ "java/lang/invoke/MethodHandle" ∧ yJ15_checkIndex.cls ≠ "java/lang/invoke/VarHandle" ∧ (parseMethodDescriptor yJ15_checkIndex.desc).map (fun d => d.parameters.length) = some 3 := by decide +kernel
set_option maxHeartbeats 4000000 in
theorem lt_pcheck (l : Launch) (G : gG) (ws : va_W) (i n : Nat) (hi : i < n) (hn : n < 2 ^ 31)  : gMi l yJ15_checkIndex cJ15_checkIndex 3 (some .int) ({ frames := 0, cells := 0, slots := 0, locals := 0 } : Room) G [.int (nI (i)), .int (nI (n)), .null] ws (fun _ : Unit => ws) (fun ρ _ => nI i = ρ) := by
  refine gMi_of (by decide) (Nat.le_of_ble_eq_true rfl) ?_
  intro p e s m below meth c ls A F I hl
  have hl : lv_has ls 3 [(0, .int (nI (i))), (1, .int (nI (n))), (2, .null)] := hl
  refine lv_iload_n F.x F.b dJ15_checkIndex_0 rfl (lv_at hl 0 rfl) ?_
  refine n_if_lt (tgt := 9) F (by omega) dJ15_checkIndex_1 (by decide) (fun c_1 => absurd c_1 (by exact fun z9 => z9)) (fun c_1 => ?_)
  refine lv_iload_n F.x F.b dJ15_checkIndex_4 rfl (lv_at hl 0 rfl) ?_
  refine lv_iload_n F.x F.b dJ15_checkIndex_5 rfl (lv_at hl 1 rfl) ?_
  refine n_icmp_lt (tgt := 16) F (by omega) (by omega) dJ15_checkIndex_6 (by decide) (fun c_6 => ?_) (fun c_6 => absurd c_6 (by omega))
  refine lv_iload_n F.x F.b dJ15_checkIndex_16 rfl (lv_at hl 0 rfl) ?_
  exact g_iret (u := ()) F I (by rfl) dJ15_checkIndex_17 (by first | exact Nat.le_refl _ | decide) (by first | exact Nat.le_refl _ | decide)

theorem hd_lt_check : yJ14_checkIndex.cls ≠ "java/lang/invoke/MethodHandle" ∧ yJ14_checkIndex.cls ≠ "java/lang/invoke/VarHandle" ∧ (parseMethodDescriptor yJ14_checkIndex.desc).map (fun d => d.parameters.length) = some 2 := by decide +kernel
set_option maxHeartbeats 4000000 in
theorem lt_check (l : Launch) (G : gG) (ws : va_W) (i n : Nat) (hi : i < n) (hn : n < 2 ^ 31)  : gMi l yJ14_checkIndex cJ14_checkIndex 2 (some .int) ({ frames := 1, cells := 0, slots := 0, locals := 22 } : Room) G [.int (nI (i)), .int (nI (n))] ws (fun _ : Unit => ws) (fun ρ _ => nI i = ρ) := by
  refine gMi_of (by decide) (Nat.le_of_ble_eq_true rfl) ?_
  intro p e s m below meth c ls A F I hl
  have hl : lv_has ls 2 [(0, .int (nI (i))), (1, .int (nI (n)))] := hl
  refine lv_iload_n F.x F.b dJ14_checkIndex_0 rfl (lv_at hl 0 rfl) ?_
  refine lv_iload_n F.x F.b dJ14_checkIndex_1 rfl (lv_at hl 1 rfl) ?_
  refine lv_null F.x F.b dJ14_checkIndex_2 ?_
  refine g_calli I (g_runS (n := 3) (As := [.int (nI (i)), .int (nI (n)), .null]) (rest := []) F I (lt_pcheck l G _ (i) (n) (by omega) (by omega) _) q201 q202 q73 q203 hd_lt_pcheck ⟨Nat.le_of_ble_eq_true rfl, Nat.le_of_ble_eq_true rfl⟩ rfl rfl hl.1 rfl (lv_room (Nat.le_of_ble_eq_true rfl)) dJ14_checkIndex_3 ⟨by first | exact Nat.le_refl _ | decide, by first | exact Nat.le_refl _ | decide⟩) (fun r u_ H locs hp I => ?_)
  obtain rfl := hp
  exact g_iret (u := ()) F I (by rfl) dJ14_checkIndex_6 (by first | exact Nat.le_refl _ | decide) (by first | exact Nat.le_refl _ | decide)

theorem hd_lt_elementData : yJ2_elementData.cls ≠ "java/lang/invoke/MethodHandle" ∧ yJ2_elementData.cls ≠ "java/lang/invoke/VarHandle" ∧ (parseMethodDescriptor yJ2_elementData.desc).map (fun d => d.parameters.length) = some 1 := by decide +kernel
set_option maxHeartbeats 4000000 in
theorem lt_elementData (l : Launch) (G : gG) (ws : va_W) {a e_ : Nat} {mc : Int32} {n cap : Nat} {f : Nat → Option Nat} (i : Nat) (ka : Nat) (hka : ws[ka]? = some (a, .inr (5, [.int mc, .ref e_, .int (nI n)]))) (ke : Nat) (hke : ws[ke]? = some (e_, .inl (G.2.1 4, cap, .inr (.inr (.inr (.inr f)))))) (hi : i < cap) (hcap : cap < 2 ^ 31) : gMq l yJ2_elementData cJ2_elementData 2 (some (.object "java/lang/Object")) ({ frames := 0, cells := 0, slots := 0, locals := 0 } : Room) G [.ref (a), .int (nI (i))] ws (fun _ : Unit => ws) (fun ρ _ => f i = ρ) := by
  refine gMq_of (by decide) (Nat.le_of_ble_eq_true rfl) ?_
  intro p e s m below meth c ls A F I hl
  have hl : lv_has ls 2 [(0, .ref (a)), (1, .int (nI (i)))] := hl
  refine lv_aload_n F.x F.b dJ2_elementData_0 rfl (lv_at hl 0 rfl) ?_
  refine g_get (C := RJ2) (T := TJ2) (N := 3) (ci := 5) (v := .ref (e_)) F I in_J2 rfl ka hka 1 (by decide) q107 (fun _ h9 => h9) rfl dJ2_elementData_1 ?_
  refine lv_iload_n F.x F.b dJ2_elementData_4 rfl (lv_at hl 1 rfl) ?_
  refine g_ald (C := "java/lang/Object") F I ke 4 rfl hke (by omega) (by omega) rfl dJ2_elementData_5 ?_
  exact g_aret (v := f (i)) (u := ()) F (by first | exact Or.inl ⟨_, rfl⟩ | exact Or.inr ⟨_, rfl⟩) I (by rfl) dJ2_elementData_6 (by first | exact Nat.le_refl _ | decide) (by first | exact Nat.le_refl _ | decide)

theorem hd_lt_get : yJ2_get.cls ≠ "java/lang/invoke/MethodHandle" ∧ yJ2_get.cls ≠ "java/lang/invoke/VarHandle" ∧ (parseMethodDescriptor yJ2_get.desc).map (fun d => d.parameters.length) = some 1 := by decide +kernel
set_option maxHeartbeats 4000000 in
theorem lt_get (l : Launch) (G : gG) (ws : va_W) {a e_ : Nat} {mc : Int32} {n cap : Nat} {f : Nat → Option Nat} (i : Nat) (ka : Nat) (hka : ws[ka]? = some (a, .inr (5, [.int mc, .ref e_, .int (nI n)]))) (ke : Nat) (hke : ws[ke]? = some (e_, .inl (G.2.1 4, cap, .inr (.inr (.inr (.inr f)))))) (hi : i < n) (hnc : n ≤ cap) (hcap : cap < 2 ^ 31) : gMq l yJ2_get cJ2_get 2 (some (.object "java/lang/Object")) ({ frames := 2, cells := 0, slots := 0, locals := 43 } : Room) G [.ref (a), .int (nI (i))] ws (fun _ : Unit => ws) (fun ρ _ => f i = ρ) := by
  refine gMq_of (by decide) (Nat.le_of_ble_eq_true rfl) ?_
  intro p e s m below meth c ls A F I hl
  have hl : lv_has ls 2 [(0, .ref (a)), (1, .int (nI (i)))] := hl
  refine lv_iload_n F.x F.b dJ2_get_0 rfl (lv_at hl 1 rfl) ?_
  refine lv_aload_n F.x F.b dJ2_get_1 rfl (lv_at hl 0 rfl) ?_
  refine g_get (C := RJ2) (T := TJ2) (N := 3) (ci := 5) (v := .int (nI (n))) F I in_J2 rfl ka hka 2 (by decide) q108 (fun _ h9 => h9) rfl dJ2_get_2 ?_
  refine g_calli I (g_runS (n := 2) (As := [.int (nI (i)), .int (nI (n))]) (rest := []) F I (lt_check l G _ (i) (n) (by omega) (by omega) _) q198 q199 q72 q200 hd_lt_check ⟨Nat.le_of_ble_eq_true rfl, Nat.le_of_ble_eq_true rfl⟩ rfl rfl hl.1 rfl (lv_room (Nat.le_of_ble_eq_true rfl)) dJ2_get_5 ⟨by first | exact Nat.le_refl _ | decide, by first | exact Nat.le_refl _ | decide⟩) (fun r u_ H locs hp I => ?_)
  obtain rfl := hp
  refine lv_pop F.x F.b dJ2_get_8 rfl ?_
  refine lv_aload_n F.x F.b dJ2_get_9 rfl (lv_at hl 0 rfl) ?_
  refine lv_iload_n F.x F.b dJ2_get_10 rfl (lv_at hl 1 rfl) ?_
  refine g_callq I (g_runV (n := 1) (ci := 5) (q0 := ka) (As := [.int (nI (i))]) (rest := []) F I (lt_elementData l G _ (i) ka hka ke hke (by omega) (by omega) _) q204 q205 q206 q55 q207 ⟨rfl, hd_lt_elementData⟩ ⟨Nat.le_of_ble_eq_true rfl, Nat.le_of_ble_eq_true rfl⟩ rfl hka rfl rfl hl.1 rfl (lv_room (Nat.le_of_ble_eq_true rfl)) dJ2_get_11 ⟨by first | exact Nat.le_refl _ | decide, by first | exact Nat.le_refl _ | decide⟩) (fun r u_ H locs hp I => ?_)
  obtain rfl := hp
  exact g_aret (v := f (i)) (u := ()) F (by first | exact Or.inl ⟨_, rfl⟩ | exact Or.inr ⟨_, rfl⟩) I (by rfl) dJ2_get_14 (by first | exact Nat.le_refl _ | decide) (by first | exact Nat.le_refl _ | decide)
