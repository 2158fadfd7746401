/-! THE REFERENCE, leaves -/
set_option maxRecDepth 100000
def mTk (S : MS) (j : Nat) : Int32 := if S.2 8 j = 0 then S.2 11 j else if S.2 8 j = 1 then S.2 11 j + 1 else (S.2 11 j + 1) / 2
def mOp (S : MS) (j d : Nat) : Bool := !decide (nI j = S.1 13) && (decide (S.2 8 j = 2) || !decide (S.2 12 j ≤ S.2 6 d))
def mGv (S : MS) (v d : Nat) : Bool := decide ((S.2 7 v >>> (nI d &&& 31)) &&& 1 = 1)
def mOv (S : MS) (j v : Nat) : Int32 := if S.2 9 j = nI v then S.2 10 j else if S.2 10 j = nI v then S.2 9 j else -9
def mWi (v a b : Int32) : Bool := !decide (v < a) && !decide (b < v)
theorem bI_01 (b : Bool) : bI b = 0 ∨ bI b = 1 := by cases b <;> simp [bI]
theorem nI1 : nI 1 = 1 := rfl

theorem hd_mt_within : yX1_within.cls = RX1 ∧ yX1_within.cls ≠ "java/lang/invoke/MethodHandle" ∧ yX1_within.cls ≠ "java/lang/invoke/VarHandle" ∧ (parseMethodDescriptor yX1_within.desc).map (fun d => d.parameters.length) = some 3 := by decide +kernel
set_option maxHeartbeats 4000000 in
theorem mt_within (l : Launch) (G : gG) (ws : va_W) (v : Int32) (a : Int32) (b : Int32)   : gMi l yX1_within cX1_within 3 (some .boolean) ({ frames := 0, cells := 0, slots := 0, locals := 0 } : Room) G [.int (v), .int (a), .int (b)] ws (fun _ : Unit => ws) (fun ρ _ => bI (mWi v a b) = ρ) := by
  refine gMi_of (by decide) (Nat.le_of_ble_eq_true rfl) ?_
  intro p e s m below meth c ls A F I hl
  have hl : lv_has ls 3 [(0, .int (v)), (1, .int (a)), (2, .int (b))] := hl
  refine lv_iload_n F.x F.b dX1_within_0 rfl (lv_at hl 0 rfl) ?_
  refine lv_iload_n F.x F.b dX1_within_1 rfl (lv_at hl 1 rfl) ?_
  refine lv_icmp_lt (x := v) (y := a) (tgt := 14) F.x F.b dX1_within_2 (by decide) (fun c_2 => ?_) (fun c_2 => ?_)
  · refine lv_iconst (v := nI (0)) F.x F.b dX1_within_14 (by decide) ?_
    exact g_zret (u := ()) F I (by first | exact bI_01 _ | exact Or.inl rfl | exact Or.inr rfl) (by simp [mWi, *, bI, nI_0, nI1]) dX1_within_15 (by first | exact Nat.le_refl _ | decide) (by first | exact Nat.le_refl _ | decide)
  · refine lv_iload_n F.x F.b dX1_within_5 rfl (lv_at hl 0 rfl) ?_
    refine lv_iload_n F.x F.b dX1_within_6 rfl (lv_at hl 2 rfl) ?_
    refine lv_icmp_gt (x := v) (y := b) (tgt := 14) F.x F.b dX1_within_7 (by decide) (fun c_7 => ?_) (fun c_7 => ?_)
    · refine lv_iconst (v := nI (0)) F.x F.b dX1_within_14 (by decide) ?_
      exact g_zret (u := ()) F I (by first | exact bI_01 _ | exact Or.inl rfl | exact Or.inr rfl) (by simp [mWi, *, bI, nI_0, nI1]) dX1_within_15 (by first | exact Nat.le_refl _ | decide) (by first | exact Nat.le_refl _ | decide)
    · refine lv_iconst (v := nI (1)) F.x F.b dX1_within_10 (by decide) ?_
      refine lv_goto (tgt := 15) F.x F.b dX1_within_11 (by decide) ?_
      exact g_zret (u := ()) F I (by first | exact bI_01 _ | exact Or.inl rfl | exact Or.inr rfl) (by simp [mWi, *, bI, nI_0, nI1]) dX1_within_15 (by first | exact Nat.le_refl _ | decide) (by first | exact Nat.le_refl _ | decide)

theorem hd_mt_isSheet : yX1_isSheet.cls = RX1 ∧ yX1_isSheet.cls ≠ "java/lang/invoke/MethodHandle" ∧ yX1_isSheet.cls ≠ "java/lang/invoke/VarHandle" ∧ (parseMethodDescriptor yX1_isSheet.desc).map (fun d => d.parameters.length) = some 1 := by decide +kernel
set_option maxHeartbeats 4000000 in
theorem mt_isSheet (l : Launch) (G : gG) (ws : va_W) (k : Int32)   : gMi l yX1_isSheet cX1_isSheet 1 (some .boolean) ({ frames := 1, cells := 0, slots := 0, locals := 22 } : Room) G [.int (k)] ws (fun _ : Unit => ws) (fun ρ _ => bI (mWi k 0 3) = ρ) := by
  refine gMi_of (by decide) (Nat.le_of_ble_eq_true rfl) ?_
  intro p e s m below meth c ls A F I hl
  have hl : lv_has ls 1 [(0, .int (k))] := hl
  refine lv_iload_n F.x F.b dX1_isSheet_0 rfl (lv_at hl 0 rfl) ?_
  refine lv_iconst (v := nI (0)) F.x F.b dX1_isSheet_1 (by decide) ?_
  refine lv_iconst (v := nI (3)) F.x F.b dX1_isSheet_2 (by decide) ?_
  refine g_calli I (g_runS (n := 3) (As := [.int (k), .int (nI (0)), .int (nI (3))]) (rest := []) F I (mt_within l G _ (k) (0) (3)   _) q1250 q1251 q56 q1252 hd_mt_within.2 ⟨Nat.le_of_ble_eq_true rfl, Nat.le_of_ble_eq_true rfl⟩ rfl rfl hl.1 rfl (lv_room (Nat.le_of_ble_eq_true rfl)) dX1_isSheet_3 ⟨by first | exact Nat.le_refl _ | decide, by first | exact Nat.le_refl _ | decide⟩) (fun r u_ H locs hp I => ?_)
  obtain rfl := hp
  exact g_zret (u := ()) F I (by first | exact bI_01 _ | exact Or.inl rfl | exact Or.inr rfl) (by rfl) dX1_isSheet_6 (by first | exact Nat.le_refl _ | decide) (by first | exact Nat.le_refl _ | decide)

theorem hd_mt_isSort : yX1_isSort.cls = RX1 ∧ yX1_isSort.cls ≠ "java/lang/invoke/MethodHandle" ∧ yX1_isSort.cls ≠ "java/lang/invoke/VarHandle" ∧ (parseMethodDescriptor yX1_isSort.desc).map (fun d => d.parameters.length) = some 1 := by decide +kernel
set_option maxHeartbeats 4000000 in
theorem mt_isSort (l : Launch) (G : gG) (ws : va_W) (k : Int32)   : gMi l yX1_isSort cX1_isSort 1 (some .boolean) ({ frames := 1, cells := 0, slots := 0, locals := 22 } : Room) G [.int (k)] ws (fun _ : Unit => ws) (fun ρ _ => bI (mWi k 0 2) = ρ) := by
  refine gMi_of (by decide) (Nat.le_of_ble_eq_true rfl) ?_
  intro p e s m below meth c ls A F I hl
  have hl : lv_has ls 1 [(0, .int (k))] := hl
  refine lv_iload_n F.x F.b dX1_isSort_0 rfl (lv_at hl 0 rfl) ?_
  refine lv_iconst (v := nI (0)) F.x F.b dX1_isSort_1 (by decide) ?_
  refine lv_iconst (v := nI (2)) F.x F.b dX1_isSort_2 (by decide) ?_
  refine g_calli I (g_runS (n := 3) (As := [.int (k), .int (nI (0)), .int (nI (2))]) (rest := []) F I (mt_within l G _ (k) (0) (2)   _) q1250 q1251 q56 q1252 hd_mt_within.2 ⟨Nat.le_of_ble_eq_true rfl, Nat.le_of_ble_eq_true rfl⟩ rfl rfl hl.1 rfl (lv_room (Nat.le_of_ble_eq_true rfl)) dX1_isSort_3 ⟨by first | exact Nat.le_refl _ | decide, by first | exact Nat.le_refl _ | decide⟩) (fun r u_ H locs hp I => ?_)
  obtain rfl := hp
  exact g_zret (u := ()) F I (by first | exact bI_01 _ | exact Or.inl rfl | exact Or.inr rfl) (by rfl) dX1_isSort_6 (by first | exact Nat.le_refl _ | decide) (by first | exact Nat.le_refl _ | decide)

theorem hd_mt_isDay : yX1_isDay.cls = RX1 ∧ yX1_isDay.cls ≠ "java/lang/invoke/MethodHandle" ∧ yX1_isDay.cls ≠ "java/lang/invoke/VarHandle" ∧ (parseMethodDescriptor yX1_isDay.desc).map (fun d => d.parameters.length) = some 1 := by decide +kernel
set_option maxHeartbeats 4000000 in
theorem mt_isDay (l : Launch) (G : gG) (ws : va_W) (k : Int32)   : gMi l yX1_isDay cX1_isDay 1 (some .boolean) ({ frames := 1, cells := 0, slots := 0, locals := 22 } : Room) G [.int (k)] ws (fun _ : Unit => ws) (fun ρ _ => bI (mWi k 0 7) = ρ) := by
  refine gMi_of (by decide) (Nat.le_of_ble_eq_true rfl) ?_
  intro p e s m below meth c ls A F I hl
  have hl : lv_has ls 1 [(0, .int (k))] := hl
  refine lv_iload_n F.x F.b dX1_isDay_0 rfl (lv_at hl 0 rfl) ?_
  refine lv_iconst (v := nI (0)) F.x F.b dX1_isDay_1 (by decide) ?_
  refine lv_bipush (v := nI (7)) F.x F.b dX1_isDay_2 (by decide) ?_
  refine g_calli I (g_runS (n := 3) (As := [.int (k), .int (nI (0)), .int (nI (7))]) (rest := []) F I (mt_within l G _ (k) (0) (7)   _) q1250 q1251 q56 q1252 hd_mt_within.2 ⟨Nat.le_of_ble_eq_true rfl, Nat.le_of_ble_eq_true rfl⟩ rfl rfl hl.1 rfl (lv_room (Nat.le_of_ble_eq_true rfl)) dX1_isDay_4 ⟨by first | exact Nat.le_refl _ | decide, by first | exact Nat.le_refl _ | decide⟩) (fun r u_ H locs hp I => ?_)
  obtain rfl := hp
  exact g_zret (u := ()) F I (by first | exact bI_01 _ | exact Or.inl rfl | exact Or.inr rfl) (by rfl) dX1_isDay_7 (by first | exact Nat.le_refl _ | decide) (by first | exact Nat.le_refl _ | decide)

theorem hd_mt_isValley : yX1_isValley.cls = RX1 ∧ yX1_isValley.cls ≠ "java/lang/invoke/MethodHandle" ∧ yX1_isValley.cls ≠ "java/lang/invoke/VarHandle" ∧ (parseMethodDescriptor yX1_isValley.desc).map (fun d => d.parameters.length) = some 1 := by decide +kernel
set_option maxHeartbeats 4000000 in
theorem mt_isValley (l : Launch) (G : gG) (ws : va_W) (k : Int32)   : gMi l yX1_isValley cX1_isValley 1 (some .boolean) ({ frames := 1, cells := 0, slots := 0, locals := 22 } : Room) G [.int (k)] ws (fun _ : Unit => ws) (fun ρ _ => bI (mWi k 0 2) = ρ) := by
  refine gMi_of (by decide) (Nat.le_of_ble_eq_true rfl) ?_
  intro p e s m below meth c ls A F I hl
  have hl : lv_has ls 1 [(0, .int (k))] := hl
  refine lv_iload_n F.x F.b dX1_isValley_0 rfl (lv_at hl 0 rfl) ?_
  refine lv_iconst (v := nI (0)) F.x F.b dX1_isValley_1 (by decide) ?_
  refine lv_iconst (v := nI (2)) F.x F.b dX1_isValley_2 (by decide) ?_
  refine g_calli I (g_runS (n := 3) (As := [.int (k), .int (nI (0)), .int (nI (2))]) (rest := []) F I (mt_within l G _ (k) (0) (2)   _) q1250 q1251 q56 q1252 hd_mt_within.2 ⟨Nat.le_of_ble_eq_true rfl, Nat.le_of_ble_eq_true rfl⟩ rfl rfl hl.1 rfl (lv_room (Nat.le_of_ble_eq_true rfl)) dX1_isValley_3 ⟨by first | exact Nat.le_refl _ | decide, by first | exact Nat.le_refl _ | decide⟩) (fun r u_ H locs hp I => ?_)
  obtain rfl := hp
  exact g_zret (u := ()) F I (by first | exact bI_01 _ | exact Or.inl rfl | exact Or.inr rfl) (by rfl) dX1_isValley_6 (by first | exact Nat.le_refl _ | decide) (by first | exact Nat.le_refl _ | decide)

theorem hd_mt_fails : yX1_fails.cls = RX1 ∧ yX1_fails.cls ≠ "java/lang/invoke/MethodHandle" ∧ yX1_fails.cls ≠ "java/lang/invoke/VarHandle" ∧ (parseMethodDescriptor yX1_fails.desc).map (fun d => d.parameters.length) = some 1 := by decide +kernel
set_option maxHeartbeats 4000000 in
theorem mt_fails (l : Launch) (G : gG) (o : Nat) (q : Nat → Nat) (S : MS) (k : Int32)   : gMi l yX1_fails cX1_fails 2 (some .int) ({ frames := 0, cells := 0, slots := 0, locals := 0 } : Room) G [.ref o, .int (k)] (mW G o q S) (fun S' => mW G o q S') (fun ρ S' => -10 - k = ρ ∧ (va_up S.1 0 k, S.2) = S') := by
  refine gMi_of (by decide) (Nat.le_of_ble_eq_true rfl) ?_
  intro p e s m below meth c ls A F I hl
  have hl : lv_has ls 2 [(0, .ref (o)), (1, .int (k))] := hl
  refine lv_aload_n F.x F.b dX1_fails_0 rfl (lv_at hl 0 rfl) ?_
  refine lv_iload_n F.x F.b dX1_fails_1 rfl (lv_at hl 1 rfl) ?_
  refine m_put F I 0 (by decide) q1155 dX1_fails_2 (fun H locs (I : Iw G A s (mW G o q (va_up S.1 0 (k), S.2)) H locs) => ?_)
  refine lv_bipush (v := (-10)) F.x F.b dX1_fails_5 (by decide) ?_
  refine lv_iload_n F.x F.b dX1_fails_7 rfl (lv_at hl 1 rfl) ?_
  refine lv_isub (x := (-10)) (y := k) F.x F.b dX1_fails_8 ?_
  exact g_iret (u := (va_up S.1 0 (k), S.2)) F I (by exact ⟨rfl, rfl⟩) dX1_fails_9 (by first | exact Nat.le_refl _ | decide) (by first | exact Nat.le_refl _ | decide)

theorem hd_mt_lost : yX1_lost.cls = RX1 ∧ yX1_lost.cls ≠ "java/lang/invoke/MethodHandle" ∧ yX1_lost.cls ≠ "java/lang/invoke/VarHandle" ∧ (parseMethodDescriptor yX1_lost.desc).map (fun d => d.parameters.length) = some 1 := by decide +kernel
set_option maxHeartbeats 4000000 in
theorem mt_lost (l : Launch) (G : gG) (o : Nat) (q : Nat → Nat) (S : MS) (k : Int32)   : gMl l yX1_lost cX1_lost 2 (some .long) ({ frames := 0, cells := 0, slots := 0, locals := 0 } : Room) G [.ref o, .int (k)] (mW G o q S) (fun S' => mW G o q S') (fun ρ S' => -9223372036854775808 = ρ ∧ (va_up S.1 0 k, S.2) = S') := by
  refine gMl_of (by decide) (Nat.le_of_ble_eq_true rfl) ?_
  intro p e s m below meth c ls A F I hl
  have hl : lv_has ls 2 [(0, .ref (o)), (1, .int (k))] := hl
  refine lv_aload_n F.x F.b dX1_lost_0 rfl (lv_at hl 0 rfl) ?_
  refine lv_iload_n F.x F.b dX1_lost_1 rfl (lv_at hl 1 rfl) ?_
  refine m_put F I 0 (by decide) q1155 dX1_lost_2 (fun H locs (I : Iw G A s (mW G o q (va_up S.1 0 (k), S.2)) H locs) => ?_)
  refine lv_ldc2 (v := -9223372036854775808) F.x F.b F.o (F.t _ q1425) dX1_lost_5 ?_
  exact g_lret (u := (va_up S.1 0 (k), S.2)) F I (by exact ⟨rfl, rfl⟩) dX1_lost_8 (by first | exact Nat.le_refl _ | decide) (by first | exact Nat.le_refl _ | decide)

theorem hd_mt_begins : yX1_begins.cls = RX1 ∧ yX1_begins.cls ≠ "java/lang/invoke/MethodHandle" ∧ yX1_begins.cls ≠ "java/lang/invoke/VarHandle" ∧ (parseMethodDescriptor yX1_begins.desc).map (fun d => d.parameters.length) = some 1 := by decide +kernel
set_option maxHeartbeats 4000000 in
theorem mt_begins (l : Launch) (G : gG) (o : Nat) (q : Nat → Nat) (S : MS) (k : Int32)   : gMv l yX1_begins cX1_begins 2 none ({ frames := 0, cells := 0, slots := 0, locals := 0 } : Room) G [.ref o, .int (k)] (mW G o q S) (fun S' => mW G o q S') (fun S' => (va_up S.1 1 (31 * S.1 1 + k), S.2) = S') := by
  refine gMv_of (by decide) (Nat.le_of_ble_eq_true rfl) ?_
  intro p e s m below meth c ls A F I hl
  have hl : lv_has ls 2 [(0, .ref (o)), (1, .int (k))] := hl
  refine lv_aload_n F.x F.b dX1_begins_0 rfl (lv_at hl 0 rfl) ?_
  refine lv_bipush (v := nI (31)) F.x F.b dX1_begins_1 (by decide) ?_
  refine lv_aload_n F.x F.b dX1_begins_3 rfl (lv_at hl 0 rfl) ?_
  refine m_get (v := (S.1 1)) F I 1 (by decide) rfl q1156 dX1_begins_4 ?_
  refine lv_imul (x := 31) (y := (S.1 1)) F.x F.b dX1_begins_7 ?_
  refine lv_iload_n F.x F.b dX1_begins_8 rfl (lv_at hl 1 rfl) ?_
  refine lv_iadd (x := (31 * (S.1 1))) (y := k) F.x F.b dX1_begins_9 ?_
  refine m_put F I 1 (by decide) q1156 dX1_begins_10 (fun H locs (I : Iw G A s (mW G o q (va_up S.1 1 (((31 * (S.1 1)) + k)), S.2)) H locs) => ?_)
  exact g_vret (u := (va_up S.1 1 (((31 * (S.1 1)) + k)), S.2)) F I (by rfl) dX1_begins_13 (by first | exact Nat.le_refl _ | decide) (by first | exact Nat.le_refl _ | decide)

theorem hd_mt_trace : yX1_trace.cls = RX1 ∧ yX1_trace.cls ≠ "java/lang/invoke/MethodHandle" ∧ yX1_trace.cls ≠ "java/lang/invoke/VarHandle" ∧ (parseMethodDescriptor yX1_trace.desc).map (fun d => d.parameters.length) = some 0 := by decide +kernel
set_option maxHeartbeats 4000000 in
theorem mt_trace (l : Launch) (G : gG) (o : Nat) (q : Nat → Nat) (S : MS)    : gMi l yX1_trace cX1_trace 1 (some .int) ({ frames := 0, cells := 0, slots := 0, locals := 0 } : Room) G [.ref o] (mW G o q S) (fun S' => mW G o q S') (fun ρ S' => S.1 1 = ρ ∧ S = S') := by
  refine gMi_of (by decide) (Nat.le_of_ble_eq_true rfl) ?_
  intro p e s m below meth c ls A F I hl
  have hl : lv_has ls 1 [(0, .ref (o))] := hl
  refine lv_aload_n F.x F.b dX1_trace_0 rfl (lv_at hl 0 rfl) ?_
  refine m_get (v := (S.1 1)) F I 1 (by decide) rfl q1156 dX1_trace_1 ?_
  exact g_iret (u := S) F I (by exact ⟨rfl, rfl⟩) dX1_trace_4 (by first | exact Nat.le_refl _ | decide) (by first | exact Nat.le_refl _ | decide)

theorem hd_mt_fault : yX1_fault.cls = RX1 ∧ yX1_fault.cls ≠ "java/lang/invoke/MethodHandle" ∧ yX1_fault.cls ≠ "java/lang/invoke/VarHandle" ∧ (parseMethodDescriptor yX1_fault.desc).map (fun d => d.parameters.length) = some 0 := by decide +kernel
set_option maxHeartbeats 4000000 in
theorem mt_fault (l : Launch) (G : gG) (o : Nat) (q : Nat → Nat) (S : MS)    : gMi l yX1_fault cX1_fault 1 (some .int) ({ frames := 0, cells := 0, slots := 0, locals := 0 } : Room) G [.ref o] (mW G o q S) (fun S' => mW G o q S') (fun ρ S' => S.1 0 = ρ ∧ S = S') := by
  refine gMi_of (by decide) (Nat.le_of_ble_eq_true rfl) ?_
  intro p e s m below meth c ls A F I hl
  have hl : lv_has ls 1 [(0, .ref (o))] := hl
  refine lv_aload_n F.x F.b dX1_fault_0 rfl (lv_at hl 0 rfl) ?_
  refine m_get (v := (S.1 0)) F I 0 (by decide) rfl q1155 dX1_fault_1 ?_
  exact g_iret (u := S) F I (by exact ⟨rfl, rfl⟩) dX1_fault_4 (by first | exact Nat.le_refl _ | decide) (by first | exact Nat.le_refl _ | decide)

theorem hd_mt_isPass : yX1_isPass.cls = RX1 ∧ yX1_isPass.cls ≠ "java/lang/invoke/MethodHandle" ∧ yX1_isPass.cls ≠ "java/lang/invoke/VarHandle" ∧ (parseMethodDescriptor yX1_isPass.desc).map (fun d => d.parameters.length) = some 1 := by decide +kernel
set_option maxHeartbeats 4000000 in
theorem mt_isPass (l : Launch) (G : gG) (o : Nat) (q : Nat → Nat) (S : MS) (x : Int32)   : gMi l yX1_isPass cX1_isPass 2 (some .boolean) ({ frames := 0, cells := 0, slots := 0, locals := 0 } : Room) G [.ref o, .int (x)] (mW G o q S) (fun S' => mW G o q S') (fun ρ S' => bI (!decide (x < 0) && !decide (S.1 5 ≤ x)) = ρ ∧ S = S') := by
  refine gMi_of (by decide) (Nat.le_of_ble_eq_true rfl) ?_
  intro p e s m below meth c ls A F I hl
  have hl : lv_has ls 2 [(0, .ref (o)), (1, .int (x))] := hl
  refine lv_iload_n F.x F.b dX1_isPass_0 rfl (lv_at hl 1 rfl) ?_
  refine lv_if_lt (x := x) (tgt := 16) F.x F.b dX1_isPass_1 (by decide) (fun c_1 => ?_) (fun c_1 => ?_)
  · refine lv_iconst (v := nI (0)) F.x F.b dX1_isPass_16 (by decide) ?_
    exact g_zret (u := S) F I (by first | exact bI_01 _ | exact Or.inl rfl | exact Or.inr rfl) (by simp [*, bI, nI_0, nI1]) dX1_isPass_17 (by first | exact Nat.le_refl _ | decide) (by first | exact Nat.le_refl _ | decide)
  · refine lv_iload_n F.x F.b dX1_isPass_4 rfl (lv_at hl 1 rfl) ?_
    refine lv_aload_n F.x F.b dX1_isPass_5 rfl (lv_at hl 0 rfl) ?_
    refine m_get (v := (S.1 5)) F I 5 (by decide) rfl q1160 dX1_isPass_6 ?_
    refine lv_icmp_ge (x := x) (y := (S.1 5)) (tgt := 16) F.x F.b dX1_isPass_9 (by decide) (fun c_9 => ?_) (fun c_9 => ?_)
    · refine lv_iconst (v := nI (0)) F.x F.b dX1_isPass_16 (by decide) ?_
      exact g_zret (u := S) F I (by first | exact bI_01 _ | exact Or.inl rfl | exact Or.inr rfl) (by simp [*, bI, nI_0, nI1]) dX1_isPass_17 (by first | exact Nat.le_refl _ | decide) (by first | exact Nat.le_refl _ | decide)
    · refine lv_iconst (v := nI (1)) F.x F.b dX1_isPass_12 (by decide) ?_
      refine lv_goto (tgt := 17) F.x F.b dX1_isPass_13 (by decide) ?_
      exact g_zret (u := S) F I (by first | exact bI_01 _ | exact Or.inl rfl | exact Or.inr rfl) (by simp [*, bI, nI_0, nI1]) dX1_isPass_17 (by first | exact Nat.le_refl _ | decide) (by first | exact Nat.le_refl _ | decide)

theorem hd_mt_takes : yX1_takes.cls = RX1 ∧ yX1_takes.cls ≠ "java/lang/invoke/MethodHandle" ∧ yX1_takes.cls ≠ "java/lang/invoke/VarHandle" ∧ (parseMethodDescriptor yX1_takes.desc).map (fun d => d.parameters.length) = some 1 := by decide +kernel
set_option maxHeartbeats 4000000 in
theorem mt_takes (l : Launch) (G : gG) (o : Nat) (q : Nat → Nat) (S : MS) (j : Nat)  (hj : j < 6) : gMi l yX1_takes cX1_takes 2 (some .int) ({ frames := 0, cells := 0, slots := 0, locals := 0 } : Room) G [.ref o, .int (nI (j))] (mW G o q S) (fun S' => mW G o q S') (fun ρ S' => mTk S j = ρ ∧ S = S') := by
  refine gMi_of (by decide) (Nat.le_of_ble_eq_true rfl) ?_
  intro p e s m below meth c ls A F I hl
  have hl : lv_has ls 2 [(0, .ref (o)), (1, .int (nI (j)))] := hl
  refine lv_aload_n F.x F.b dX1_takes_0 rfl (lv_at hl 0 rfl) ?_
  refine m_geta F I 8 (by decide) q1163 dX1_takes_1 ?_
  refine lv_iload_n F.x F.b dX1_takes_4 rfl (lv_at hl 1 rfl) ?_
  refine m_ld (v := ((S.2 8) (j))) F I 8 (by decide) (show j < 6 by omega) rfl dX1_takes_5 ?_
  refine lv_if_ne (x := ((S.2 8) (j))) (tgt := 18) F.x F.b dX1_takes_6 (by decide) (fun c_6 => ?_) (fun c_6 => ?_)
  · refine lv_aload_n F.x F.b dX1_takes_18 rfl (lv_at hl 0 rfl) ?_
    refine m_geta F I 8 (by decide) q1163 dX1_takes_19 ?_
    refine lv_iload_n F.x F.b dX1_takes_22 rfl (lv_at hl 1 rfl) ?_
    refine m_ld (v := ((S.2 8) (j))) F I 8 (by decide) (show j < 6 by omega) rfl dX1_takes_23 ?_
    refine lv_iconst (v := nI (1)) F.x F.b dX1_takes_24 (by decide) ?_
    refine lv_icmp_ne (x := ((S.2 8) (j))) (y := 1) (tgt := 39) F.x F.b dX1_takes_25 (by decide) (fun c_25 => ?_) (fun c_25 => ?_)
    · refine lv_aload_n F.x F.b dX1_takes_39 rfl (lv_at hl 0 rfl) ?_
      refine m_geta F I 11 (by decide) q1166 dX1_takes_40 ?_
      refine lv_iload_n F.x F.b dX1_takes_43 rfl (lv_at hl 1 rfl) ?_
      refine m_ld (v := ((S.2 11) (j))) F I 11 (by decide) (show j < 6 by omega) rfl dX1_takes_44 ?_
      refine lv_iconst (v := nI (1)) F.x F.b dX1_takes_45 (by decide) ?_
      refine lv_iadd (x := ((S.2 11) (j))) (y := 1) F.x F.b dX1_takes_46 ?_
      refine lv_iconst (v := nI (2)) F.x F.b dX1_takes_47 (by decide) ?_
      refine lv_idiv (x := (((S.2 11) (j)) + 1)) (y := 2) F.x F.b dX1_takes_48 (by decide) ?_
      exact g_iret (u := S) F I (by simp [mTk, *]) dX1_takes_49 (by first | exact Nat.le_refl _ | decide) (by first | exact Nat.le_refl _ | decide)
    · refine lv_aload_n F.x F.b dX1_takes_28 rfl (lv_at hl 0 rfl) ?_
      refine m_geta F I 11 (by decide) q1166 dX1_takes_29 ?_
      refine lv_iload_n F.x F.b dX1_takes_32 rfl (lv_at hl 1 rfl) ?_
      refine m_ld (v := ((S.2 11) (j))) F I 11 (by decide) (show j < 6 by omega) rfl dX1_takes_33 ?_
      refine lv_iconst (v := nI (1)) F.x F.b dX1_takes_34 (by decide) ?_
      refine lv_iadd (x := ((S.2 11) (j))) (y := 1) F.x F.b dX1_takes_35 ?_
      refine lv_goto (tgt := 49) F.x F.b dX1_takes_36 (by decide) ?_
      exact g_iret (u := S) F I (by simp [mTk, *]) dX1_takes_49 (by first | exact Nat.le_refl _ | decide) (by first | exact Nat.le_refl _ | decide)
  · refine lv_aload_n F.x F.b dX1_takes_9 rfl (lv_at hl 0 rfl) ?_
    refine m_geta F I 11 (by decide) q1166 dX1_takes_10 ?_
    refine lv_iload_n F.x F.b dX1_takes_13 rfl (lv_at hl 1 rfl) ?_
    refine m_ld (v := ((S.2 11) (j))) F I 11 (by decide) (show j < 6 by omega) rfl dX1_takes_14 ?_
    refine lv_goto (tgt := 49) F.x F.b dX1_takes_15 (by decide) ?_
    exact g_iret (u := S) F I (by simp [mTk, *]) dX1_takes_49 (by first | exact Nat.le_refl _ | decide) (by first | exact Nat.le_refl _ | decide)

theorem hd_mt_isOpen : yX1_isOpen.cls = RX1 ∧ yX1_isOpen.cls ≠ "java/lang/invoke/MethodHandle" ∧ yX1_isOpen.cls ≠ "java/lang/invoke/VarHandle" ∧ (parseMethodDescriptor yX1_isOpen.desc).map (fun d => d.parameters.length) = some 2 := by decide +kernel
set_option maxHeartbeats 4000000 in
theorem mt_isOpen (l : Launch) (G : gG) (o : Nat) (q : Nat → Nat) (S : MS) (j : Nat) (d : Nat)  (hj : j < 6) (hd : d < 8) : gMi l yX1_isOpen cX1_isOpen 3 (some .boolean) ({ frames := 0, cells := 0, slots := 0, locals := 0 } : Room) G [.ref o, .int (nI (j)), .int (nI (d))] (mW G o q S) (fun S' => mW G o q S') (fun ρ S' => bI (mOp S j d) = ρ ∧ S = S') := by
  refine gMi_of (by decide) (Nat.le_of_ble_eq_true rfl) ?_
  intro p e s m below meth c ls A F I hl
  have hl : lv_has ls 3 [(0, .ref (o)), (1, .int (nI (j))), (2, .int (nI (d)))] := hl
  refine lv_iload_n F.x F.b dX1_isOpen_0 rfl (lv_at hl 1 rfl) ?_
  refine lv_aload_n F.x F.b dX1_isOpen_1 rfl (lv_at hl 0 rfl) ?_
  refine m_get (v := (S.1 13)) F I 13 (by decide) rfl q1168 dX1_isOpen_2 ?_
  refine lv_icmp_eq (x := (nI (j))) (y := (S.1 13)) (tgt := 37) F.x F.b dX1_isOpen_5 (by decide) (fun c_5 => ?_) (fun c_5 => ?_)
  · refine lv_iconst (v := nI (0)) F.x F.b dX1_isOpen_37 (by decide) ?_
    exact g_zret (u := S) F I (by first | exact bI_01 _ | exact Or.inl rfl | exact Or.inr rfl) (by simp [mOp, *, bI, nI_0, nI1]) dX1_isOpen_38 (by first | exact Nat.le_refl _ | decide) (by first | exact Nat.le_refl _ | decide)
  · refine lv_aload_n F.x F.b dX1_isOpen_8 rfl (lv_at hl 0 rfl) ?_
    refine m_geta F I 8 (by decide) q1163 dX1_isOpen_9 ?_
    refine lv_iload_n F.x F.b dX1_isOpen_12 rfl (lv_at hl 1 rfl) ?_
    refine m_ld (v := ((S.2 8) (j))) F I 8 (by decide) (show j < 6 by omega) rfl dX1_isOpen_13 ?_
    refine lv_iconst (v := nI (2)) F.x F.b dX1_isOpen_14 (by decide) ?_
    refine lv_icmp_eq (x := ((S.2 8) (j))) (y := 2) (tgt := 33) F.x F.b dX1_isOpen_15 (by decide) (fun c_15 => ?_) (fun c_15 => ?_)
    · refine lv_iconst (v := nI (1)) F.x F.b dX1_isOpen_33 (by decide) ?_
      refine lv_goto (tgt := 38) F.x F.b dX1_isOpen_34 (by decide) ?_
      exact g_zret (u := S) F I (by first | exact bI_01 _ | exact Or.inl rfl | exact Or.inr rfl) (by simp [mOp, *, bI, nI_0, nI1]) dX1_isOpen_38 (by first | exact Nat.le_refl _ | decide) (by first | exact Nat.le_refl _ | decide)
    · refine lv_aload_n F.x F.b dX1_isOpen_18 rfl (lv_at hl 0 rfl) ?_
      refine m_geta F I 12 (by decide) q1167 dX1_isOpen_19 ?_
      refine lv_iload_n F.x F.b dX1_isOpen_22 rfl (lv_at hl 1 rfl) ?_
      refine m_ld (v := ((S.2 12) (j))) F I 12 (by decide) (show j < 6 by omega) rfl dX1_isOpen_23 ?_
      refine lv_aload_n F.x F.b dX1_isOpen_24 rfl (lv_at hl 0 rfl) ?_
      refine m_geta F I 6 (by decide) q1161 dX1_isOpen_25 ?_
      refine lv_iload_n F.x F.b dX1_isOpen_28 rfl (lv_at hl 2 rfl) ?_
      refine m_ld (v := ((S.2 6) (d))) F I 6 (by decide) (show d < 8 by omega) rfl dX1_isOpen_29 ?_
      refine lv_icmp_le (x := ((S.2 12) (j))) (y := ((S.2 6) (d))) (tgt := 37) F.x F.b dX1_isOpen_30 (by decide) (fun c_30 => ?_) (fun c_30 => ?_)
      · refine lv_iconst (v := nI (0)) F.x F.b dX1_isOpen_37 (by decide) ?_
        exact g_zret (u := S) F I (by first | exact bI_01 _ | exact Or.inl rfl | exact Or.inr rfl) (by simp [mOp, *, bI, nI_0, nI1]) dX1_isOpen_38 (by first | exact Nat.le_refl _ | decide) (by first | exact Nat.le_refl _ | decide)
      · refine lv_iconst (v := nI (1)) F.x F.b dX1_isOpen_33 (by decide) ?_
        refine lv_goto (tgt := 38) F.x F.b dX1_isOpen_34 (by decide) ?_
        exact g_zret (u := S) F I (by first | exact bI_01 _ | exact Or.inl rfl | exact Or.inr rfl) (by simp [mOp, *, bI, nI_0, nI1]) dX1_isOpen_38 (by first | exact Nat.le_refl _ | decide) (by first | exact Nat.le_refl _ | decide)

theorem hd_mt_doesGive : yX1_doesGive.cls = RX1 ∧ yX1_doesGive.cls ≠ "java/lang/invoke/MethodHandle" ∧ yX1_doesGive.cls ≠ "java/lang/invoke/VarHandle" ∧ (parseMethodDescriptor yX1_doesGive.desc).map (fun d => d.parameters.length) = some 2 := by decide +kernel
set_option maxHeartbeats 4000000 in
theorem mt_doesGive (l : Launch) (G : gG) (o : Nat) (q : Nat → Nat) (S : MS) (v : Nat) (d : Nat)  (hv : v < 3) : gMi l yX1_doesGive cX1_doesGive 3 (some .boolean) ({ frames := 0, cells := 0, slots := 0, locals := 0 } : Room) G [.ref o, .int (nI (v)), .int (nI (d))] (mW G o q S) (fun S' => mW G o q S') (fun ρ S' => bI (mGv S v d) = ρ ∧ S = S') := by
  refine gMi_of (by decide) (Nat.le_of_ble_eq_true rfl) ?_
  intro p e s m below meth c ls A F I hl
  have hl : lv_has ls 3 [(0, .ref (o)), (1, .int (nI (v))), (2, .int (nI (d)))] := hl
  refine lv_aload_n F.x F.b dX1_doesGive_0 rfl (lv_at hl 0 rfl) ?_
  refine m_geta F I 7 (by decide) q1162 dX1_doesGive_1 ?_
  refine lv_iload_n F.x F.b dX1_doesGive_4 rfl (lv_at hl 1 rfl) ?_
  refine m_ld (v := ((S.2 7) (v))) F I 7 (by decide) (show v < 3 by omega) rfl dX1_doesGive_5 ?_
  refine lv_iload_n F.x F.b dX1_doesGive_6 rfl (lv_at hl 2 rfl) ?_
  refine lv_ishr (x := ((S.2 7) (v))) (y := (nI (d))) F.x F.b dX1_doesGive_7 ?_
  refine lv_iconst (v := nI (1)) F.x F.b dX1_doesGive_8 (by decide) ?_
  refine lv_iand (x := (((S.2 7) (v)) >>> ((nI (d)) &&& 31))) (y := 1) F.x F.b dX1_doesGive_9 ?_
  refine lv_iconst (v := nI (1)) F.x F.b dX1_doesGive_10 (by decide) ?_
  refine lv_icmp_ne (x := ((((S.2 7) (v)) >>> ((nI (d)) &&& 31)) &&& 1)) (y := 1) (tgt := 18) F.x F.b dX1_doesGive_11 (by decide) (fun c_11 => ?_) (fun c_11 => ?_)
  · refine lv_iconst (v := nI (0)) F.x F.b dX1_doesGive_18 (by decide) ?_
    exact g_zret (u := S) F I (by first | exact bI_01 _ | exact Or.inl rfl | exact Or.inr rfl) (by simp [mGv, *, bI, nI_0, nI1]) dX1_doesGive_19 (by first | exact Nat.le_refl _ | decide) (by first | exact Nat.le_refl _ | decide)
  · refine lv_iconst (v := nI (1)) F.x F.b dX1_doesGive_14 (by decide) ?_
    refine lv_goto (tgt := 19) F.x F.b dX1_doesGive_15 (by decide) ?_
    exact g_zret (u := S) F I (by first | exact bI_01 _ | exact Or.inl rfl | exact Or.inr rfl) (by simp [mGv, *, bI, nI_0, nI1]) dX1_doesGive_19 (by first | exact Nat.le_refl _ | decide) (by first | exact Nat.le_refl _ | decide)

theorem hd_mt_over : yX1_over.cls = RX1 ∧ yX1_over.cls ≠ "java/lang/invoke/MethodHandle" ∧ yX1_over.cls ≠ "java/lang/invoke/VarHandle" ∧ (parseMethodDescriptor yX1_over.desc).map (fun d => d.parameters.length) = some 2 := by decide +kernel
set_option maxHeartbeats 4000000 in
theorem mt_over (l : Launch) (G : gG) (o : Nat) (q : Nat → Nat) (S : MS) (j : Nat) (v : Nat)  (hj : j < 6) : gMi l yX1_over cX1_over 3 (some .int) ({ frames := 0, cells := 0, slots := 0, locals := 0 } : Room) G [.ref o, .int (nI (j)), .int (nI (v))] (mW G o q S) (fun S' => mW G o q S') (fun ρ S' => mOv S j v = ρ ∧ S = S') := by
  refine gMi_of (by decide) (Nat.le_of_ble_eq_true rfl) ?_
  intro p e s m below meth c ls A F I hl
  have hl : lv_has ls 3 [(0, .ref (o)), (1, .int (nI (j))), (2, .int (nI (v)))] := hl
  refine lv_aload_n F.x F.b dX1_over_0 rfl (lv_at hl 0 rfl) ?_
  refine m_geta F I 9 (by decide) q1164 dX1_over_1 ?_
  refine lv_iload_n F.x F.b dX1_over_4 rfl (lv_at hl 1 rfl) ?_
  refine m_ld (v := ((S.2 9) (j))) F I 9 (by decide) (show j < 6 by omega) rfl dX1_over_5 ?_
  refine lv_iload_n F.x F.b dX1_over_6 rfl (lv_at hl 2 rfl) ?_
  refine lv_icmp_ne (x := ((S.2 9) (j))) (y := (nI (v))) (tgt := 19) F.x F.b dX1_over_7 (by decide) (fun c_7 => ?_) (fun c_7 => ?_)
  · refine lv_aload_n F.x F.b dX1_over_19 rfl (lv_at hl 0 rfl) ?_
    refine m_geta F I 10 (by decide) q1165 dX1_over_20 ?_
    refine lv_iload_n F.x F.b dX1_over_23 rfl (lv_at hl 1 rfl) ?_
    refine m_ld (v := ((S.2 10) (j))) F I 10 (by decide) (show j < 6 by omega) rfl dX1_over_24 ?_
    refine lv_iload_n F.x F.b dX1_over_25 rfl (lv_at hl 2 rfl) ?_
    refine lv_icmp_ne (x := ((S.2 10) (j))) (y := (nI (v))) (tgt := 38) F.x F.b dX1_over_26 (by decide) (fun c_26 => ?_) (fun c_26 => ?_)
    · refine lv_bipush (v := (-9)) F.x F.b dX1_over_38 (by decide) ?_
      exact g_iret (u := S) F I (by simp [mOv, *]) dX1_over_40 (by first | exact Nat.le_refl _ | decide) (by first | exact Nat.le_refl _ | decide)
    · refine lv_aload_n F.x F.b dX1_over_29 rfl (lv_at hl 0 rfl) ?_
      refine m_geta F I 9 (by decide) q1164 dX1_over_30 ?_
      refine lv_iload_n F.x F.b dX1_over_33 rfl (lv_at hl 1 rfl) ?_
      refine m_ld (v := ((S.2 9) (j))) F I 9 (by decide) (show j < 6 by omega) rfl dX1_over_34 ?_
      refine lv_goto (tgt := 40) F.x F.b dX1_over_35 (by decide) ?_
      exact g_iret (u := S) F I (by simp [mOv, *]) dX1_over_40 (by first | exact Nat.le_refl _ | decide) (by first | exact Nat.le_refl _ | decide)
  · refine lv_aload_n F.x F.b dX1_over_10 rfl (lv_at hl 0 rfl) ?_
    refine m_geta F I 10 (by decide) q1165 dX1_over_11 ?_
    refine lv_iload_n F.x F.b dX1_over_14 rfl (lv_at hl 1 rfl) ?_
    refine m_ld (v := ((S.2 10) (j))) F I 10 (by decide) (show j < 6 by omega) rfl dX1_over_15 ?_
    refine lv_goto (tgt := 40) F.x F.b dX1_over_16 (by decide) ?_
    exact g_iret (u := S) F I (by simp [mOv, *]) dX1_over_40 (by first | exact Nat.le_refl _ | decide) (by first | exact Nat.le_refl _ | decide)

theorem hd_mt_spot : yX1_spot.cls = RX1 ∧ yX1_spot.cls ≠ "java/lang/invoke/MethodHandle" ∧ yX1_spot.cls ≠ "java/lang/invoke/VarHandle" ∧ (parseMethodDescriptor yX1_spot.desc).map (fun d => d.parameters.length) = some 3 := by decide +kernel
set_option maxHeartbeats 4000000 in
theorem mt_spot (l : Launch) (G : gG) (ws : va_W) (d : Nat) (v : Nat) (r : Nat)   : gMi l yX1_spot cX1_spot 3 (some .int) ({ frames := 0, cells := 0, slots := 0, locals := 0 } : Room) G [.int (nI (d)), .int (nI (v)), .int (nI (r))] ws (fun _ : Unit => ws) (fun ρ _ => nI ((3 * d + v) * 2 + r) = ρ) := by
  refine gMi_of (by decide) (Nat.le_of_ble_eq_true rfl) ?_
  intro p e s m below meth c ls A F I hl
  have hl : lv_has ls 3 [(0, .int (nI (d))), (1, .int (nI (v))), (2, .int (nI (r)))] := hl
  refine lv_iconst (v := nI (3)) F.x F.b dX1_spot_0 (by decide) ?_
  refine lv_iload_n F.x F.b dX1_spot_1 rfl (lv_at hl 0 rfl) ?_
  refine n_imul F dX1_spot_2 ?_
  refine lv_iload_n F.x F.b dX1_spot_3 rfl (lv_at hl 1 rfl) ?_
  refine n_iadd F dX1_spot_4 ?_
  refine lv_iconst (v := nI (2)) F.x F.b dX1_spot_5 (by decide) ?_
  refine n_imul F dX1_spot_6 ?_
  refine lv_iload_n F.x F.b dX1_spot_7 rfl (lv_at hl 2 rfl) ?_
  refine n_iadd F dX1_spot_8 ?_
  exact g_iret (u := ()) F I (by rfl) dX1_spot_9 (by first | exact Nat.le_refl _ | decide) (by first | exact Nat.le_refl _ | decide)
