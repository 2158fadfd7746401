/-! THE COMPONENT, readings -/
set_option maxRecDepth 100000
/-- the readings -/
def cYr (G : gG) (q : Nat → Nat) (Y : va_W) (L : LD) : Prop := ∃ el : Nat, cYl q Y 11 (L 26 0) el ∧ (L 26 0 = 0 ∨ ∃ f : Nat → Option Nat, cYa G Y el f ∧ ∀ j, j < L 26 0 → ∃ ra : Nat, f j = some ra ∧ ∃ kr : Nat, Y[kr]? = some (ra, .inr (6, [.int (nI (L 27 j)), .int (eN (L 28 j))])))
theorem cYr.get {G : gG} {q : Nat → Nat} {Y : va_W} {L : LD} (h : cYr G q Y L) {j : Nat} (hj : j < L 26 0) : ∃ (el : Nat) (f : Nat → Option Nat) (ra kr : Nat), cYl q Y 11 (L 26 0) el ∧ cYa G Y el f ∧ f j = some ra ∧ Y[kr]? = some (ra, .inr (6, [.int (nI (L 27 j)), .int (eN (L 28 j))])) := by
  obtain ⟨el, h1, h2⟩ := h
  rcases h2 with h2 | ⟨f, h3, h4⟩
  · omega
  · obtain ⟨ra, h5, kr, h6⟩ := h4 j hj
    exact ⟨el, f, ra, kr, h1, h3, h5, h6⟩
theorem so_t {L : LD} {ms k : Nat} (h : (pWh L ms (L 27 k)).2.1 = L 28 k) : bI (pSo L ms k) &&& 1 = bI (pSo L ms (k + 1)) := by
  rw [pSo, h]; simp; cases pSo L ms k <;> rfl
theorem so_f {L : LD} {ms k : Nat} (h : (pWh L ms (L 27 k)).2.1 ≠ L 28 k) : bI (pSo L ms k) &&& 0 = bI (pSo L ms (k + 1)) := by
  rw [pSo]; simp [h]; rfl
/-- but for one place of array a, S1 is as S -/
def cC (a j : Nat) (S S1 : MS) : Prop := cKeep S (S1.1, va_up S1.2 a (S.2 a)) ∧ ∀ i, i ≠ j → S1.2 a i = S.2 a i
theorem cC.rf {a j : Nat} {S : MS} : cC a j S S := by
  refine ⟨⟨rfl, rfl, ?_, ?_⟩, fun _ _ => rfl⟩
  · show va_up S.2 a (S.2 a) 1 = S.2 1
    unfold va_up; split
    · rename_i h; rw [h]
    · rfl
  · show va_up S.2 a (S.2 a) 2 = S.2 2
    unfold va_up; split
    · rename_i h; rw [h]
    · rfl
theorem cC1.st {j : Nat} {S S1 : MS} (h : cC 1 j S S1) (x : Int32) : cC 1 j S (S1.1, va_up S1.2 1 (upd (S1.2 1) j x)) := by
  refine ⟨h.1, fun i hi => ?_⟩
  show upd (S1.2 1) j x i = S.2 1 i
  unfold upd; rw [if_neg hi]; exact h.2 i hi
theorem cC2.st {j : Nat} {S S1 : MS} (h : cC 2 j S S1) (x : Int32) : cC 2 j S (S1.1, va_up S1.2 2 (upd (S1.2 2) j x)) := by
  refine ⟨h.1, fun i hi => ?_⟩
  show upd (S1.2 2) j x i = S.2 2 i
  unfold upd; rw [if_neg hi]; exact h.2 i hi
theorem cC1.keep {j : Nat} {S S1 S2 : MS} (h : cC 1 j S S1) (k : cKeep S1 S2) : cC 1 j S S2 := by
  obtain ⟨b1, b2, b3, b4⟩ := k
  exact ⟨h.1.tr ⟨b1, b2, rfl, b4⟩, fun i hi => by rw [b3]; exact h.2 i hi⟩
theorem cC2.keep {j : Nat} {S S1 S2 : MS} (h : cC 2 j S S1) (k : cKeep S1 S2) : cC 2 j S S2 := by
  obtain ⟨b1, b2, b3, b4⟩ := k
  exact ⟨h.1.tr ⟨b1, b2, b3, rfl⟩, fun i hi => by rw [b4]; exact h.2 i hi⟩
theorem cC1.ld {j x : Nat} {S S1 : MS} {L : LD} (h : cC 1 j S S1) (hS : cLs S L) : cLs (S1.1, va_up S1.2 1 (upd (S1.2 1) j (nI x))) (lUp L 6 j x) := by
  have h0 := cLs_keep hS h.1
  refine ⟨fun d hd => ?_, h0.2⟩
  show upd (S1.2 1) j (nI x) d = nI (va_up (L 6) j x d)
  unfold upd va_up; split
  · rfl
  · rename_i n1; exact (h.2 d n1).trans (hS.1 d hd)
theorem cC2.ld {j x : Nat} {S S1 : MS} {L : LD} (h : cC 2 j S S1) (hS : cLs S L) : cLs (S1.1, va_up S1.2 2 (upd (S1.2 2) j (nI x))) (lUp L 7 j x) := by
  have h0 := cLs_keep hS h.1
  refine ⟨h0.1, fun d hd => ?_⟩
  show upd (S1.2 2) j (nI x) d = nI (va_up (L 7) j x d)
  unfold upd va_up; split
  · rfl
  · rename_i n1; exact (h.2 d n1).trans (hS.2 d hd)
theorem cC1.done {j : Nat} {S S1 : MS} {L : LD} (h : cC 1 j S S1) (hS : cLs S L) (hj : j < 8) : cKeep S (S1.1, va_up S1.2 1 (upd (S1.2 1) j (nI (L 6 j)))) := by
  have e : upd (S1.2 1) j (nI (L 6 j)) = S.2 1 := by
    funext i
    unfold upd; split
    · rename_i e; rw [e]; exact (hS.1 j hj).symm
    · rename_i n1; exact h.2 i n1
  rw [e]; exact h.1
theorem cC2.done {j : Nat} {S S1 : MS} {L : LD} (h : cC 2 j S S1) (hS : cLs S L) (hj : j < 3) : cKeep S (S1.1, va_up S1.2 2 (upd (S1.2 2) j (nI (L 7 j)))) := by
  have e : upd (S1.2 2) j (nI (L 7 j)) = S.2 2 := by
    funext i
    unfold upd; split
    · rename_i e; rw [e]; exact (hS.2 j hj).symm
    · rename_i n1; exact h.2 i n1
  rw [e]; exact h.1

theorem hd_ct_areSo : yX0_areSo.cls ≠ "java/lang/invoke/MethodHandle" ∧ yX0_areSo.cls ≠ "java/lang/invoke/VarHandle" ∧ (parseMethodDescriptor yX0_areSo.desc).map (fun d => d.parameters.length) = some 0 := by decide +kernel
set_option maxHeartbeats 4000000 in
theorem ct_areSo (l : Launch) (G : gG) (o : Nat) (q : Nat → Nat) (S : MS) (Y : va_W)   (L : LD) (ms : Nat) (hL : LOk L) (hS : cLs S L) (hYp : cYp G o q Y L ms) (hR : ROk L) (hYr : cYr G q Y L) : gMi l yX0_areSo cX0_areSo 3 (some .boolean) ({ frames := 6, cells := 0, slots := 0, locals := 135 } : Room) G [.ref o] (cW G o q S Y) (fun S' => cW G o q S' Y) (fun ρ S' => bI (pSo L ms (L 26 0)) = ρ ∧ cKeep S S') := by
  refine gMi_of (by decide) (Nat.le_of_ble_eq_true rfl) ?_
  intro p e s m below meth c ls A F I hl
  have hl : lv_has ls 3 [(0, .ref (o))] := hl
  have hL5 := hL.1
  have hS0 := hS
  obtain ⟨el, hYl, hYpr⟩ := id hYp
  have hR8 := hR.1
  obtain ⟨elr, hYlr, hYrr⟩ := id hYr
  refine lv_iconst (v := nI (1)) F.x F.b dX0_areSo_0 (by decide) ?_
  refine W.val (y := bI (pSo L ms 0)) (by rfl) ?_
  refine lv_istore_n (lv' := [(1, .int (bI (pSo L ms 0))), (0, .ref (o))]) F.x F.b dX0_areSo_1 rfl hl (by decide) rfl (fun ls hl => ?_)
  refine lv_iconst (v := nI (0)) F.x F.b dX0_areSo_2 (by decide) ?_
  refine lv_istore_n (lv' := [(2, .int (nI (0))), (1, .int (bI (pSo L ms 0))), (0, .ref (o))]) F.x F.b dX0_areSo_3 rfl hl (by decide) rfl (fun ls hl => ?_)
  refine W_ind 4 (fun _ => []) (fun n_J => n_J) (fun n_J H locs ls => ∃ (k : Nat) (S1 : MS), n_J = L 26 0 - k ∧ (k ≤ L 26 0) ∧ (cKeep S S1) ∧  Iw G A s (cW G o q S1 Y) H locs ∧ lv_has ls 3 [(0, .ref (o)), (1, .int (bI (pSo L ms k))), (2, .int (nI (k)))]) ?_ _ ⟨0, S, rfl, by omega, by exact cKeep.rf, I, lv_sub hl [2, 1, 0] rfl⟩
  intro n4 H locs ls hJ ih4
  obtain ⟨k, S1, hn4, hk, hk1, I, hl⟩ := hJ
  have hS := cLs_keep hS0 hk1
  refine lv_iload_n F.x F.b dX0_areSo_4 rfl (lv_at hl 2 rfl) ?_
  refine lv_aload_n F.x F.b dX0_areSo_5 rfl (lv_at hl 0 rfl) ?_
  refine c_getr F I 11 (by decide) q135 dX0_areSo_6 ?_
  refine c_lsize (fd := 11) (rest := [.int (nI (k))]) F I hYlr hl.1 (Nat.le_of_ble_eq_true rfl) ⟨Nat.le_of_ble_eq_true rfl, Nat.le_of_ble_eq_true rfl⟩ ⟨by first | exact Nat.le_refl _ | decide, by first | exact Nat.le_refl _ | decide⟩ q177 dX0_areSo_9 (fun H locs I => ?_)
  refine n_icmp_ge (tgt := 70) F (by omega) (by omega) dX0_areSo_14 (by decide) (fun c_14 => ?_) (fun c_14 => ?_)
  · refine lv_iload_n F.x F.b dX0_areSo_70 rfl (lv_at hl 1 rfl) ?_
    exact g_zret (u := S1) F I (by first | exact bI_01 _ | exact Or.inl rfl | exact Or.inr rfl) (by exact ⟨by rw [show L 26 0 = k by omega], hk1⟩) dX0_areSo_71 (by first | exact Nat.le_refl _ | decide) (by first | exact Nat.le_refl _ | decide)
  · have hr := hR.2 k (by omega)
    have hwo := (wOk_wh (ms := ms) hL hr.1).2.1
    refine lv_iload_n F.x F.b dX0_areSo_17 rfl (lv_at hl 1 rfl) ?_
    refine lv_aload_n F.x F.b dX0_areSo_18 rfl (lv_at hl 0 rfl) ?_
    refine lv_aload_n F.x F.b dX0_areSo_19 rfl (lv_at hl 0 rfl) ?_
    refine c_getr F I 11 (by decide) q135 dX0_areSo_20 ?_
    refine lv_iload_n F.x F.b dX0_areSo_23 rfl (lv_at hl 2 rfl) ?_
    obtain ⟨el24, f24, ra24, kr24, hYl24, hYa24, hf24, hkr24⟩ := hYr.get (j := k) (by omega)
    refine c_lget (fd := 11) (rest := [.ref (o), .int (bI (pSo L ms k))]) F I hYl24 hYa24 (by omega) (by omega) hf24 hl.1 (Nat.le_of_ble_eq_true rfl) ⟨Nat.le_of_ble_eq_true rfl, Nat.le_of_ble_eq_true rfl⟩ ⟨by first | exact Nat.le_refl _ | decide, by first | exact Nat.le_refl _ | decide⟩ q190 dX0_areSo_24 (fun H locs I => ?_)
    refine g_castE (C := RX9) (T := TX9) (N := 2) (ci := 6) F I rfl (c_Y hkr24) q366 dX0_areSo_29 ?_
    refine g_getN (C := RX9) (T := TX9) (N := 2) (ci := 6) (v := .int (nI (L 27 (k)))) F I in_X9 rfl (kr24 + 4) (c_Y hkr24) 0 (by decide) q373 (fun _ h9 => h9) rfl dX0_areSo_32 ?_
    refine g_calli I (g_runV (n := 1) (ci := 1) (q0 := 0) (As := [.int (nI (L 27 (k)))]) (rest := [.int (bI (pSo L ms k))]) F I (ct_soonestOf l G o q (S1) Y (L 27 (k)) L ms (by exact hL) (by exact hS) (by exact hYp) (by omega) _) q298 q300 qs2 q52 q301 ⟨rfl, hd_ct_soonestOf⟩ ⟨Nat.le_of_ble_eq_true rfl, Nat.le_of_ble_eq_true rfl⟩ rfl rfl rfl rfl hl.1 rfl (lv_room (Nat.le_of_ble_eq_true rfl)) dX0_areSo_35 ⟨by first | exact Nat.le_refl _ | decide, by first | exact Nat.le_refl _ | decide⟩) (fun r Z35 H locs hp I => ?_)
    obtain ⟨rfl, hq35⟩ := hp
    refine lv_aload_n F.x F.b dX0_areSo_38 rfl (lv_at hl 0 rfl) ?_
    refine c_getr F I 11 (by decide) q135 dX0_areSo_39 ?_
    refine lv_iload_n F.x F.b dX0_areSo_42 rfl (lv_at hl 2 rfl) ?_
    obtain ⟨el43, f43, ra43, kr43, hYl43, hYa43, hf43, hkr43⟩ := hYr.get (j := k) (by omega)
    refine c_lget (fd := 11) (rest := [.int (eN ((pWh L ms (L 27 (k))).2.1)), .int (bI (pSo L ms k))]) F I hYl43 hYa43 (by omega) (by omega) hf43 hl.1 (Nat.le_of_ble_eq_true rfl) ⟨Nat.le_of_ble_eq_true rfl, Nat.le_of_ble_eq_true rfl⟩ ⟨by first | exact Nat.le_refl _ | decide, by first | exact Nat.le_refl _ | decide⟩ q190 dX0_areSo_43 (fun H locs I => ?_)
    refine g_castE (C := RX9) (T := TX9) (N := 2) (ci := 6) F I rfl (c_Y hkr43) q366 dX0_areSo_48 ?_
    refine g_getN (C := RX9) (T := TX9) (N := 2) (ci := 6) (v := .int (eN (L 28 (k)))) F I in_X9 rfl (kr43 + 4) (c_Y hkr43) 1 (by decide) q375 (fun _ h9 => h9) rfl dX0_areSo_51 ?_
    refine lv_icmp_ne (x := (eN ((pWh L ms (L 27 (k))).2.1))) (y := (eN (L 28 (k)))) (tgt := 61) F.x F.b dX0_areSo_54 (by decide) (fun c_54 => ?_) (fun c_54 => ?_)
    · refine lv_iconst (v := nI (0)) F.x F.b dX0_areSo_61 (by decide) ?_
      refine lv_iand (x := (bI (pSo L ms k))) (y := 0) F.x F.b dX0_areSo_62 ?_
      refine W.val (y := bI (pSo L ms (k + 1))) (by first | exact so_t ((eN_inj (by omega) (by omega)).mp c_54) | exact so_f (fun z => c_54 (by rw [z]))) ?_
      refine lv_istore_n (lv' := [(1, .int (bI (pSo L ms (k + 1)))), (0, .ref (o)), (2, .int (nI (k)))]) F.x F.b dX0_areSo_63 rfl hl (by decide) rfl (fun ls hl => ?_)
      refine lv_iinc (v := nI ((k + 1))) (lv' := [(2, .int (nI ((k + 1)))), (1, .int (bI (pSo L ms (k + 1)))), (0, .ref (o))]) F.x F.b dX0_areSo_64 hl (k := 2) rfl (nI_1 (k)) (by decide) rfl (fun ls hl => ?_)
      refine lv_goto (tgt := 4) F.x F.b dX0_areSo_67 (by decide) ?_
      exact ih4 _ _ _ _ (by omega) ⟨k + 1, Z35, rfl, by omega, by exact hk1.tr hq35, I, lv_sub hl [2, 1, 0] rfl⟩
    · refine lv_iconst (v := nI (1)) F.x F.b dX0_areSo_57 (by decide) ?_
      refine lv_goto (tgt := 62) F.x F.b dX0_areSo_58 (by decide) ?_
      refine lv_iand (x := (bI (pSo L ms k))) (y := 1) F.x F.b dX0_areSo_62 ?_
      refine W.val (y := bI (pSo L ms (k + 1))) (by first | exact so_t ((eN_inj (by omega) (by omega)).mp c_54) | exact so_f (fun z => c_54 (by rw [z]))) ?_
      refine lv_istore_n (lv' := [(1, .int (bI (pSo L ms (k + 1)))), (0, .ref (o)), (2, .int (nI (k)))]) F.x F.b dX0_areSo_63 rfl hl (by decide) rfl (fun ls hl => ?_)
      refine lv_iinc (v := nI ((k + 1))) (lv' := [(2, .int (nI ((k + 1)))), (1, .int (bI (pSo L ms (k + 1)))), (0, .ref (o))]) F.x F.b dX0_areSo_64 hl (k := 2) rfl (nI_1 (k)) (by decide) rfl (fun ls hl => ?_)
      refine lv_goto (tgt := 4) F.x F.b dX0_areSo_67 (by decide) ?_
      exact ih4 _ _ _ _ (by omega) ⟨k + 1, Z35, rfl, by omega, by exact hk1.tr hq35, I, lv_sub hl [2, 1, 0] rfl⟩

theorem hd_ct_snows : yX0_snows.cls ≠ "java/lang/invoke/MethodHandle" ∧ yX0_snows.cls ≠ "java/lang/invoke/VarHandle" ∧ (parseMethodDescriptor yX0_snows.desc).map (fun d => d.parameters.length) = some 1 := by decide +kernel
set_option maxHeartbeats 4000000 in
theorem ct_snows (l : Launch) (G : gG) (o : Nat) (q : Nat → Nat) (S : MS) (Y : va_W)  (x : Int32) (L : LD) (hL : LOk L) (hS : cLs S L) (hYp : cYp G o q Y L 99) (hR : ROk L) (hYr : cYr G q Y L) : gMi l yX0_snows cX0_snows 5 (some .int) ({ frames := 7, cells := 0, slots := 0, locals := 157 } : Room) G [.ref o, .int (x)] (cW G o q S Y) (fun S' => cW G o q S' Y) (fun ρ S' => aSnows L x = ρ ∧ cKeep S S') := by
  refine gMi_of (by decide) (Nat.le_of_ble_eq_true rfl) ?_
  intro p e s m below meth c ls A F I hl
  have hl : lv_has ls 5 [(0, .ref (o)), (1, .int (x))] := hl
  have hL5 := hL.1
  have hS0 := hS
  obtain ⟨el, hYl, hYpr⟩ := id hYp
  have hR8 := hR.1
  obtain ⟨elr, hYlr, hYrr⟩ := id hYr
  refine lv_iload_n F.x F.b dX0_snows_0 rfl (lv_at hl 1 rfl) ?_
  refine g_calli I (g_runS (n := 1) (As := [.int (x)]) (rest := []) F I (ct_isDay l G _ (x)   _) q247 q248 q52 q249 hd_ct_isDay ⟨Nat.le_of_ble_eq_true rfl, Nat.le_of_ble_eq_true rfl⟩ rfl rfl hl.1 rfl (lv_room (Nat.le_of_ble_eq_true rfl)) dX0_snows_1 ⟨by first | exact Nat.le_refl _ | decide, by first | exact Nat.le_refl _ | decide⟩) (fun r u_ H locs hp I => ?_)
  obtain rfl := hp
  refine z_ne (tgt := 10) F dX0_snows_4 (by decide) (fun c_4 => ?_) (fun c_4 => ?_)
  · obtain ⟨j, hj, rfl⟩ := wi_n (m := 7) (by decide) c_4
    have tj : (nI j).toNatClampNeg = j := nI_clamp (by omega)
    refine lv_aload_n F.x F.b dX0_snows_10 rfl (lv_at hl 0 rfl) ?_
    refine g_calli I (g_runV (n := 0) (ci := 1) (q0 := 0) (As := []) (rest := []) F I (ct_noLand l G o q (S) Y  L 99 (by exact hL) (by exact hS) (by exact hYp) _) q252 q254 qs1 q52 q255 ⟨rfl, hd_ct_noLand⟩ ⟨Nat.le_of_ble_eq_true rfl, Nat.le_of_ble_eq_true rfl⟩ rfl rfl rfl rfl hl.1 rfl (lv_room (Nat.le_of_ble_eq_true rfl)) dX0_snows_11 ⟨by first | exact Nat.le_refl _ | decide, by first | exact Nat.le_refl _ | decide⟩) (fun r u_ H locs hp I => ?_)
    obtain ⟨rfl, rfl⟩ := hp
    refine z_eq (tgt := 20) F dX0_snows_14 (by decide) (fun c_14 => ?_) (fun c_14 => ?_)
    · refine lv_aload_n F.x F.b dX0_snows_20 rfl (lv_at hl 0 rfl) ?_
      refine c_getr F I 1 (by decide) q124 dX0_snows_21 ?_
      refine lv_iload_n F.x F.b dX0_snows_24 rfl (lv_at hl 1 rfl) ?_
      refine c_ld (v := ((S.2 1) (j))) F I 1 (by decide) (show j < 8 by omega) rfl dX0_snows_25 ?_
      refine W.val (y := nI (L 6 j)) (by exact hS.1 j (by omega)) ?_
      refine lv_istore_n (lv' := [(2, .int (nI (L 6 j))), (0, .ref (o)), (1, .int (nI (j)))]) F.x F.b dX0_snows_26 rfl hl (by decide) rfl (fun ls hl => ?_)
      refine lv_iconst (v := nI (0)) F.x F.b dX0_snows_27 (by decide) ?_
      refine lv_istore_n (lv' := [(3, .int (nI (0))), (2, .int (nI (L 6 j))), (0, .ref (o)), (1, .int (nI (j)))]) F.x F.b dX0_snows_28 rfl hl (by decide) rfl (fun ls hl => ?_)
      refine lv_iconst (v := nI (0)) F.x F.b dX0_snows_29 (by decide) ?_
      refine lv_istore (lv' := [(4, .int (nI (0))), (3, .int (nI (0))), (2, .int (nI (L 6 j))), (0, .ref (o)), (1, .int (nI (j)))]) F.x F.b dX0_snows_30 hl (by decide) rfl (fun ls hl => ?_)
      refine W_ind 32 (fun _ => []) (fun n_J => n_J) (fun n_J H locs ls => ∃ (vv : Nat) (S1 : MS), n_J = 10 - vv ∧ (vv ≤ 10) ∧ (cC 1 j S S1) ∧  Iw G A s (cW G o q S1 Y) H locs ∧ lv_has ls 5 [(0, .ref (o)), (1, .int (nI (j))), (2, .int (nI (L 6 j))), (3, .int (bSet (fun v => pSo (lUp L 6 j v) 99 (L 26 0)) vv)), (4, .int (nI (vv)))]) ?_ _ ⟨0, S, rfl, by omega, by exact cC.rf, I, lv_sub hl [3, 4, 2, 1, 0] rfl⟩
      intro n32 H locs ls hJ ih32
      obtain ⟨vv, S1, hn32, hv, hc, I, hl⟩ := hJ
      refine lv_iload F.x F.b dX0_snows_32 (lv_at hl 4 rfl) ?_
      refine lv_bipush (v := nI (9)) F.x F.b dX0_snows_34 (by decide) ?_
      refine n_icmp_gt (tgt := 71) F (by omega) (by omega) dX0_snows_36 (by decide) (fun c_36 => ?_) (fun c_36 => ?_)
      · refine lv_aload_n F.x F.b dX0_snows_71 rfl (lv_at hl 0 rfl) ?_
        refine c_getr F I 1 (by decide) q124 dX0_snows_72 ?_
        refine lv_iload_n F.x F.b dX0_snows_75 rfl (lv_at hl 1 rfl) ?_
        refine lv_iload_n F.x F.b dX0_snows_76 rfl (lv_at hl 2 rfl) ?_
        refine c_st F I 1 (by decide) (show j < 8 by omega) dX0_snows_77 (fun H locs (I : Iw G A s (cW G o q (S1.1, va_up S1.2 1 (upd (S1.2 1) (j) (nI (L 6 j)))) Y) H locs) => ?_)
        refine lv_iload_n F.x F.b dX0_snows_78 rfl (lv_at hl 3 rfl) ?_
        exact g_iret (u := (S1.1, va_up S1.2 1 (upd (S1.2 1) (j) (nI (L 6 j))))) F I (by exact ⟨by rw [aSnows, if_pos c_4, if_neg (by simpa using c_14), tj, show vv = 10 by omega], cC1.done hc hS (by omega)⟩) dX0_snows_79 (by first | exact Nat.le_refl _ | decide) (by first | exact Nat.le_refl _ | decide)
      · refine lv_aload_n F.x F.b dX0_snows_39 rfl (lv_at hl 0 rfl) ?_
        refine c_getr F I 1 (by decide) q124 dX0_snows_40 ?_
        refine lv_iload_n F.x F.b dX0_snows_43 rfl (lv_at hl 1 rfl) ?_
        refine lv_iload F.x F.b dX0_snows_44 (lv_at hl 4 rfl) ?_
        refine c_st F I 1 (by decide) (show j < 8 by omega) dX0_snows_46 (fun H locs (I : Iw G A s (cW G o q (S1.1, va_up S1.2 1 (upd (S1.2 1) (j) (nI (vv)))) Y) H locs) => ?_)
        have hSv := cC1.ld (x := vv) hc hS
        refine lv_iload_n F.x F.b dX0_snows_47 rfl (lv_at hl 3 rfl) ?_
        refine lv_aload_n F.x F.b dX0_snows_48 rfl (lv_at hl 0 rfl) ?_
        refine g_calli I (g_runV (n := 0) (ci := 1) (q0 := 0) (As := []) (rest := [.int (bSet (fun v => pSo (lUp L 6 j v) 99 (L 26 0)) vv)]) F I (ct_areSo l G o q ((S1.1, va_up S1.2 1 (upd (S1.2 1) (j) (nI (vv))))) Y  (lUp L 6 j vv) 99 (by exact hL.up6 (by omega)) (by exact hSv) (by exact hYp) (by exact hR) (by exact hYr) _) q471 q473 qs13 q52 q474 ⟨rfl, hd_ct_areSo⟩ ⟨Nat.le_of_ble_eq_true rfl, Nat.le_of_ble_eq_true rfl⟩ rfl rfl rfl rfl hl.1 rfl (lv_room (Nat.le_of_ble_eq_true rfl)) dX0_snows_49 ⟨by first | exact Nat.le_refl _ | decide, by first | exact Nat.le_refl _ | decide⟩) (fun r Z49 H locs hp I => ?_)
        obtain ⟨rfl, hq49⟩ := hp
        refine z_eq (tgt := 62) F dX0_snows_52 (by decide) (fun c_52 => ?_) (fun c_52 => ?_)
        · refine lv_iconst (v := nI (0)) F.x F.b dX0_snows_62 (by decide) ?_
          refine lv_ior (x := bSet (fun v => pSo (lUp L 6 j v) 99 (L 26 0)) vv) (y := 0) F.x F.b dX0_snows_63 ?_
          refine W.val (y := bSet (fun v => pSo (lUp L 6 j v) 99 (L 26 0)) (vv + 1)) (by first | exact bSet_t (fun v => pSo (lUp L 6 j v) 99 (L 26 0)) vv c_52 | exact bSet_n (fun v => pSo (lUp L 6 j v) 99 (L 26 0)) vv c_52) ?_
          refine lv_istore_n (lv' := [(3, .int (bSet (fun v => pSo (lUp L 6 j v) 99 (L 26 0)) (vv + 1))), (0, .ref (o)), (1, .int (nI (j))), (2, .int (nI (L 6 j))), (4, .int (nI (vv)))]) F.x F.b dX0_snows_64 rfl hl (by decide) rfl (fun ls hl => ?_)
          refine lv_iinc (v := nI ((vv + 1))) (lv' := [(4, .int (nI ((vv + 1)))), (3, .int (bSet (fun v => pSo (lUp L 6 j v) 99 (L 26 0)) (vv + 1))), (0, .ref (o)), (1, .int (nI (j))), (2, .int (nI (L 6 j)))]) F.x F.b dX0_snows_65 hl (k := 4) rfl (nI_1 (vv)) (by decide) rfl (fun ls hl => ?_)
          refine lv_goto (tgt := 32) F.x F.b dX0_snows_68 (by decide) ?_
          exact ih32 _ _ _ _ (by omega) ⟨vv + 1, Z49, rfl, by omega, by exact cC1.keep (cC1.st hc _) hq49, I, lv_sub hl [2, 3, 4, 1, 0] rfl⟩
        · refine lv_iconst (v := nI (1)) F.x F.b dX0_snows_55 (by decide) ?_
          refine lv_iload F.x F.b dX0_snows_56 (lv_at hl 4 rfl) ?_
          refine lv_ishl (x := 1) (y := (nI (vv))) F.x F.b dX0_snows_58 ?_
          refine lv_goto (tgt := 63) F.x F.b dX0_snows_59 (by decide) ?_
          refine lv_ior (x := bSet (fun v => pSo (lUp L 6 j v) 99 (L 26 0)) vv) (y := (1 <<< ((nI (vv)) &&& 31))) F.x F.b dX0_snows_63 ?_
          refine W.val (y := bSet (fun v => pSo (lUp L 6 j v) 99 (L 26 0)) (vv + 1)) (by first | exact bSet_t (fun v => pSo (lUp L 6 j v) 99 (L 26 0)) vv c_52 | exact bSet_n (fun v => pSo (lUp L 6 j v) 99 (L 26 0)) vv c_52) ?_
          refine lv_istore_n (lv' := [(3, .int (bSet (fun v => pSo (lUp L 6 j v) 99 (L 26 0)) (vv + 1))), (0, .ref (o)), (1, .int (nI (j))), (2, .int (nI (L 6 j))), (4, .int (nI (vv)))]) F.x F.b dX0_snows_64 rfl hl (by decide) rfl (fun ls hl => ?_)
          refine lv_iinc (v := nI ((vv + 1))) (lv' := [(4, .int (nI ((vv + 1)))), (3, .int (bSet (fun v => pSo (lUp L 6 j v) 99 (L 26 0)) (vv + 1))), (0, .ref (o)), (1, .int (nI (j))), (2, .int (nI (L 6 j)))]) F.x F.b dX0_snows_65 hl (k := 4) rfl (nI_1 (vv)) (by decide) rfl (fun ls hl => ?_)
          refine lv_goto (tgt := 32) F.x F.b dX0_snows_68 (by decide) ?_
          exact ih32 _ _ _ _ (by omega) ⟨vv + 1, Z49, rfl, by omega, by exact cC1.keep (cC1.st hc _) hq49, I, lv_sub hl [2, 3, 4, 1, 0] rfl⟩
    · refine lv_bipush (v := (-3)) F.x F.b dX0_snows_17 (by decide) ?_
      exact g_iret (u := S) F I (by exact ⟨by simp_all [aSnows], cKeep.rf⟩) dX0_snows_19 (by first | exact Nat.le_refl _ | decide) (by first | exact Nat.le_refl _ | decide)
  · refine lv_bipush (v := (-2)) F.x F.b dX0_snows_7 (by decide) ?_
    exact g_iret (u := S) F I (by exact ⟨by simp_all [aSnows], cKeep.rf⟩) dX0_snows_9 (by first | exact Nat.le_refl _ | decide) (by first | exact Nat.le_refl _ | decide)
