/-! THE COMPONENT, safe -/
set_option maxRecDepth 100000
/-- but for what valleys 1 and 2 give, S1 is as S -/
def cK7 (S S1 : MS) : Prop := cKeep S (S1.1, va_up S1.2 2 (S.2 2)) ∧ ∀ j, j ≠ 1 → j ≠ 2 → S1.2 2 j = S.2 2 j
theorem cK7.rf {S : MS} : cK7 S S := ⟨by exact ⟨rfl, rfl, rfl, rfl⟩, fun _ _ _ => rfl⟩
theorem cK7.st {S S1 : MS} (h : cK7 S S1) (a b : Int32) : cK7 S (S1.1, va_up S1.2 2 (upd (upd (S1.2 2) 1 a) 2 b)) := by
  refine ⟨h.1, fun j h1 h2 => ?_⟩
  show upd (upd (S1.2 2) 1 a) 2 b j = S.2 2 j
  unfold upd; rw [if_neg h2, if_neg h1]; exact h.2 j h1 h2
theorem cK7.keep {S S1 S2 : MS} (h : cK7 S S1) (k : cKeep S1 S2) : cK7 S S2 := by
  obtain ⟨b1, b2, b3, b4⟩ := k
  refine ⟨h.1.tr ⟨b1, b2, b3, rfl⟩, fun j h1 h2 => by rw [b4]; exact h.2 j h1 h2⟩
theorem cK7.ld {S S1 : MS} {L : LD} {a b : Nat} (h : cK7 S S1) (hS : cLs S L) : cLs (S1.1, va_up S1.2 2 (upd (upd (S1.2 2) 1 (nI a)) 2 (nI b))) (l12 L a b) := by
  have h0 := cLs_keep hS h.1
  refine ⟨h0.1, fun v hv => ?_⟩
  show upd (upd (S1.2 2) 1 (nI a)) 2 (nI b) v = nI (va_up (va_up (L 7) 1 a) 2 b v)
  unfold upd va_up
  split
  · rfl
  · split
    · rfl
    · rename_i n2 n1
      exact (h.2 v n1 n2).trans (hS.2 v hv)
theorem cK7.done {S S1 : MS} {L : LD} (h : cK7 S S1) (hS : cLs S L) : cKeep S (S1.1, va_up S1.2 2 (upd (upd (S1.2 2) 1 (nI (L 7 1))) 2 (nI (L 7 2)))) := by
  have e : upd (upd (S1.2 2) 1 (nI (L 7 1))) 2 (nI (L 7 2)) = S.2 2 := by
    funext j
    unfold upd
    split
    · rename_i e; rw [e]; exact (hS.2 2 (by omega)).symm
    · split
      · rename_i e; rw [e]; exact (hS.2 1 (by omega)).symm
      · rename_i n2 n1; exact h.2 j n1 n2
  rw [e]; exact h.1
def sfC (L : LD) (d x : Nat) : Nat → Bool
  | 0 => pBy L 99 d x
  | k + 1 => sfC L d x k && pBy (l12 L (clr (L 7 1) (k / 8)) (clr (L 7 2) (k % 8))) 99 d x
theorem sfC_f {L : LD} {d x k : Nat} (h : sfC L d x k = false) : ∀ n, k ≤ n → sfC L d x n = false
  | 0, hk => by rw [show k = 0 by omega] at h; exact h
  | n + 1, hk => by
    rcases Nat.lt_or_ge k (n + 1) with h1 | h1
    · rw [sfC, sfC_f h n (by omega)]; rfl
    · rw [show n + 1 = k by omega]; exact h

def aSafeC (L : LD) (x : Int32) : Int32 := if mWi x 0 7 then (if L 5 0 = 0 then -3 else eN (lastN (fun d => sfC L d x.toNatClampNeg 64) (x.toNatClampNeg + 1))) else -2
theorem hd_ct_isSafe : yX0_isSafe.cls ≠ "java/lang/invoke/MethodHandle" ∧ yX0_isSafe.cls ≠ "java/lang/invoke/VarHandle" ∧ (parseMethodDescriptor yX0_isSafe.desc).map (fun d => d.parameters.length) = some 2 := by decide +kernel
set_option maxHeartbeats 4000000 in
theorem ct_isSafe (l : Launch) (G : gG) (o : Nat) (q : Nat → Nat) (S : MS) (Y : va_W)  (d : Nat) (x : Nat) (L : LD) (hL : LOk L) (hS : cLs S L) (hYp : cYp G o q Y L 99) (hd : d < 8) (hx : x < 8) : gMi l yX0_isSafe cX0_isSafe 7 (some .boolean) ({ frames := 7, cells := 0, slots := 0, locals := 157 } : Room) G [.ref o, .int (nI (d)), .int (nI (x))] (cW G o q S Y) (fun S' => cW G o q S' Y) (fun ρ S' => bI (sfC L d x 64) = ρ ∧ cKeep S S') := by
  refine gMi_of (by decide) (Nat.le_of_ble_eq_true rfl) ?_
  intro p e s m below meth c ls A F I hl
  have hl : lv_has ls 7 [(0, .ref (o)), (1, .int (nI (d))), (2, .int (nI (x)))] := hl
  have hL5 := hL.1
  have hS0 := hS
  obtain ⟨el, hYl, hYr⟩ := id hYp
  have h71 := hL.2.2.2 1 (by omega)
  have h72 := hL.2.2.2 2 (by omega)
  have c1 := fun k => clr_le (L 7 1) k
  have c2 := fun k => clr_le (L 7 2) k
  refine lv_aload_n F.x F.b dX0_isSafe_0 rfl (lv_at hl 0 rfl) ?_
  refine c_getr F I 2 (by decide) q126 dX0_isSafe_1 ?_
  refine lv_iconst (v := nI (1)) F.x F.b dX0_isSafe_4 (by decide) ?_
  refine c_ld (v := ((S.2 2) (1))) F I 2 (by decide) (show 1 < 3 by omega) rfl dX0_isSafe_5 ?_
  refine W.val (y := nI (L 7 1)) (by exact hS.2 1 (by omega)) ?_
  refine lv_istore_n (lv' := [(3, .int (nI (L 7 1))), (0, .ref (o)), (1, .int (nI (d))), (2, .int (nI (x)))]) F.x F.b dX0_isSafe_6 rfl hl (by decide) rfl (fun ls hl => ?_)
  refine lv_aload_n F.x F.b dX0_isSafe_7 rfl (lv_at hl 1 rfl) ?_
  refine c_getr F I 2 (by decide) q126 dX0_isSafe_8 ?_
  refine lv_iconst (v := nI (2)) F.x F.b dX0_isSafe_11 (by decide) ?_
  refine c_ld (v := ((S.2 2) (2))) F I 2 (by decide) (show 2 < 3 by omega) rfl dX0_isSafe_12 ?_
  refine W.val (y := nI (L 7 2)) (by exact hS.2 2 (by omega)) ?_
  refine lv_istore (lv' := [(4, .int (nI (L 7 2))), (3, .int (nI (L 7 1))), (0, .ref (o)), (1, .int (nI (d))), (2, .int (nI (x)))]) F.x F.b dX0_isSafe_13 hl (by decide) rfl (fun ls hl => ?_)
  refine lv_aload_n F.x F.b dX0_isSafe_15 rfl (lv_at hl 2 rfl) ?_
  refine lv_iload_n F.x F.b dX0_isSafe_16 rfl (lv_at hl 3 rfl) ?_
  refine lv_iload_n F.x F.b dX0_isSafe_17 rfl (lv_at hl 4 rfl) ?_
  refine g_calli I (g_runV (n := 2) (ci := 1) (q0 := 0) (As := [.int (nI (d)), .int (nI (x))]) (rest := []) F I (ct_isBy l G o q (S) Y (d) (x) L 99 (by exact hL) (by exact hS) (by exact hYp) (by omega) (by omega) _) q338 q340 qs6 q52 q341 ⟨rfl, hd_ct_isBy⟩ ⟨Nat.le_of_ble_eq_true rfl, Nat.le_of_ble_eq_true rfl⟩ rfl rfl rfl rfl hl.1 rfl (lv_room (Nat.le_of_ble_eq_true rfl)) dX0_isSafe_18 ⟨by first | exact Nat.le_refl _ | decide, by first | exact Nat.le_refl _ | decide⟩) (fun r Z18 H locs hp I => ?_)
  obtain ⟨rfl, hq18⟩ := hp
  refine W.val (y := bI (sfC L d x 0)) (by rfl) ?_
  refine lv_istore (lv' := [(5, .int (bI (sfC L d x 0))), (4, .int (nI (L 7 2))), (3, .int (nI (L 7 1))), (0, .ref (o)), (1, .int (nI (d))), (2, .int (nI (x)))]) F.x F.b dX0_isSafe_21 hl (by decide) rfl (fun ls hl => ?_)
  refine lv_iconst (v := nI (0)) F.x F.b dX0_isSafe_23 (by decide) ?_
  refine lv_istore (lv' := [(6, .int (nI (0))), (5, .int (bI (sfC L d x 0))), (4, .int (nI (L 7 2))), (3, .int (nI (L 7 1))), (0, .ref (o)), (1, .int (nI (d))), (2, .int (nI (x)))]) F.x F.b dX0_isSafe_24 hl (by decide) rfl (fun ls hl => ?_)
  refine W_ind 26 (fun _ => []) (fun n_J => n_J) (fun n_J H locs ls => ∃ (k : Nat) (S1 : MS), n_J = 64 - k ∧ (k ≤ 64) ∧ (cK7 S S1) ∧  Iw G A s (cW G o q S1 Y) H locs ∧ lv_has ls 7 [(0, .ref (o)), (1, .int (nI (d))), (2, .int (nI (x))), (3, .int (nI (L 7 1))), (4, .int (nI (L 7 2))), (5, .int (bI (sfC L d x k))), (6, .int (nI (k)))]) ?_ _ ⟨0, Z18, rfl, by omega, by exact cK7.rf.keep hq18, I, lv_sub hl [4, 5, 6, 3, 2, 1, 0] rfl⟩
  intro n26 H locs ls hJ ih26
  obtain ⟨k, S1, hn26, hk, h7, I, hl⟩ := hJ
  refine lv_iload F.x F.b dX0_isSafe_26 (lv_at hl 6 rfl) ?_
  refine lv_bipush (v := nI (64)) F.x F.b dX0_isSafe_28 (by decide) ?_
  refine n_icmp_ge (tgt := 87) F (by omega) (by omega) dX0_isSafe_30 (by decide) (fun c_30 => ?_) (fun c_30 => ?_)
  · have hi64 : bI (sfC L d x 64) = bI (sfC L d x k) := by first | rw [show k = 64 by omega] | rw [c_35, sfC_f c_35 64 (by omega)]
    refine lv_aload_n F.x F.b dX0_isSafe_87 rfl (lv_at hl 0 rfl) ?_
    refine c_getr F I 2 (by decide) q126 dX0_isSafe_88 ?_
    refine lv_iconst (v := nI (1)) F.x F.b dX0_isSafe_91 (by decide) ?_
    refine lv_iload_n F.x F.b dX0_isSafe_92 rfl (lv_at hl 3 rfl) ?_
    refine c_st F I 2 (by decide) (show 1 < 3 by omega) dX0_isSafe_93 (fun H locs (I : Iw G A s (cW G o q (S1.1, va_up S1.2 2 (upd (S1.2 2) (1) (nI (L 7 1)))) Y) H locs) => ?_)
    refine lv_aload_n F.x F.b dX0_isSafe_94 rfl (lv_at hl 0 rfl) ?_
    refine c_getr F I 2 (by decide) q126 dX0_isSafe_95 ?_
    refine lv_iconst (v := nI (2)) F.x F.b dX0_isSafe_98 (by decide) ?_
    refine lv_iload F.x F.b dX0_isSafe_99 (lv_at hl 4 rfl) ?_
    refine c_st F I 2 (by decide) (show 2 < 3 by omega) dX0_isSafe_101 (fun H locs (I : Iw G A s (cW G o q (S1.1, va_up (va_up S1.2 2 (upd (S1.2 2) (1) (nI (L 7 1)))) 2 (upd (upd (S1.2 2) (1) (nI (L 7 1))) (2) (nI (L 7 2)))) Y) H locs) => ?_)
    refine lv_iload F.x F.b dX0_isSafe_102 (lv_at hl 5 rfl) ?_
    exact g_zret (u := (S1.1, va_up (va_up S1.2 2 (upd (S1.2 2) (1) (nI (L 7 1)))) 2 (upd (upd (S1.2 2) (1) (nI (L 7 1))) (2) (nI (L 7 2))))) F I (by first | exact bI_01 _ | exact Or.inl rfl | exact Or.inr rfl) (by exact ⟨hi64, h7.done hS⟩) dX0_isSafe_104 (by first | exact Nat.le_refl _ | decide) (by first | exact Nat.le_refl _ | decide)
  · refine lv_iload F.x F.b dX0_isSafe_33 (lv_at hl 5 rfl) ?_
    refine z_eq (tgt := 87) F dX0_isSafe_35 (by decide) (fun c_35 => ?_) (fun c_35 => ?_)
    · have hi64 : bI (sfC L d x 64) = bI (sfC L d x k) := by first | rw [show k = 64 by omega] | rw [c_35, sfC_f c_35 64 (by omega)]
      refine lv_aload_n F.x F.b dX0_isSafe_87 rfl (lv_at hl 0 rfl) ?_
      refine c_getr F I 2 (by decide) q126 dX0_isSafe_88 ?_
      refine lv_iconst (v := nI (1)) F.x F.b dX0_isSafe_91 (by decide) ?_
      refine lv_iload_n F.x F.b dX0_isSafe_92 rfl (lv_at hl 3 rfl) ?_
      refine c_st F I 2 (by decide) (show 1 < 3 by omega) dX0_isSafe_93 (fun H locs (I : Iw G A s (cW G o q (S1.1, va_up S1.2 2 (upd (S1.2 2) (1) (nI (L 7 1)))) Y) H locs) => ?_)
      refine lv_aload_n F.x F.b dX0_isSafe_94 rfl (lv_at hl 0 rfl) ?_
      refine c_getr F I 2 (by decide) q126 dX0_isSafe_95 ?_
      refine lv_iconst (v := nI (2)) F.x F.b dX0_isSafe_98 (by decide) ?_
      refine lv_iload F.x F.b dX0_isSafe_99 (lv_at hl 4 rfl) ?_
      refine c_st F I 2 (by decide) (show 2 < 3 by omega) dX0_isSafe_101 (fun H locs (I : Iw G A s (cW G o q (S1.1, va_up (va_up S1.2 2 (upd (S1.2 2) (1) (nI (L 7 1)))) 2 (upd (upd (S1.2 2) (1) (nI (L 7 1))) (2) (nI (L 7 2)))) Y) H locs) => ?_)
      refine lv_iload F.x F.b dX0_isSafe_102 (lv_at hl 5 rfl) ?_
      exact g_zret (u := (S1.1, va_up (va_up S1.2 2 (upd (S1.2 2) (1) (nI (L 7 1)))) 2 (upd (upd (S1.2 2) (1) (nI (L 7 1))) (2) (nI (L 7 2))))) F I (by first | exact bI_01 _ | exact Or.inl rfl | exact Or.inr rfl) (by exact ⟨hi64, h7.done hS⟩) dX0_isSafe_104 (by first | exact Nat.le_refl _ | decide) (by first | exact Nat.le_refl _ | decide)
    · refine lv_aload_n F.x F.b dX0_isSafe_38 rfl (lv_at hl 0 rfl) ?_
      refine c_getr F I 2 (by decide) q126 dX0_isSafe_39 ?_
      refine lv_iconst (v := nI (1)) F.x F.b dX0_isSafe_42 (by decide) ?_
      refine lv_iload_n F.x F.b dX0_isSafe_43 rfl (lv_at hl 3 rfl) ?_
      refine lv_iconst (v := nI (1)) F.x F.b dX0_isSafe_44 (by decide) ?_
      refine lv_iload F.x F.b dX0_isSafe_45 (lv_at hl 6 rfl) ?_
      refine lv_bipush (v := nI (8)) F.x F.b dX0_isSafe_47 (by decide) ?_
      refine n_idiv F dX0_isSafe_49 (by omega) (by omega) (by omega) ?_
      refine lv_ishl (x := 1) (y := (nI ((k / 8)))) F.x F.b dX0_isSafe_50 ?_
      refine lv_iconst (v := (-1)) F.x F.b dX0_isSafe_51 (by decide) ?_
      refine lv_ixor (x := (1 <<< ((nI ((k / 8))) &&& 31))) (y := (-1)) F.x F.b dX0_isSafe_52 ?_
      refine lv_iand (x := (nI (L 7 1))) (y := ((1 <<< ((nI ((k / 8))) &&& 31)) ^^^ (-1))) F.x F.b dX0_isSafe_53 ?_
      refine W.val (y := nI (clr (L 7 1) (k / 8))) (by exact clr_raw (L 7 1) (by omega) (k / 8) (by omega)) ?_
      refine c_st F I 2 (by decide) (show 1 < 3 by omega) dX0_isSafe_54 (fun H locs (I : Iw G A s (cW G o q (S1.1, va_up S1.2 2 (upd (S1.2 2) (1) (nI (clr (L 7 1) (k / 8))))) Y) H locs) => ?_)
      refine lv_aload_n F.x F.b dX0_isSafe_55 rfl (lv_at hl 0 rfl) ?_
      refine c_getr F I 2 (by decide) q126 dX0_isSafe_56 ?_
      refine lv_iconst (v := nI (2)) F.x F.b dX0_isSafe_59 (by decide) ?_
      refine lv_iload F.x F.b dX0_isSafe_60 (lv_at hl 4 rfl) ?_
      refine lv_iconst (v := nI (1)) F.x F.b dX0_isSafe_62 (by decide) ?_
      refine lv_iload F.x F.b dX0_isSafe_63 (lv_at hl 6 rfl) ?_
      refine lv_bipush (v := nI (8)) F.x F.b dX0_isSafe_65 (by decide) ?_
      refine n_irem F dX0_isSafe_67 (by omega) (by omega) (by omega) ?_
      refine lv_ishl (x := 1) (y := (nI ((k % 8)))) F.x F.b dX0_isSafe_68 ?_
      refine lv_iconst (v := (-1)) F.x F.b dX0_isSafe_69 (by decide) ?_
      refine lv_ixor (x := (1 <<< ((nI ((k % 8))) &&& 31))) (y := (-1)) F.x F.b dX0_isSafe_70 ?_
      refine lv_iand (x := (nI (L 7 2))) (y := ((1 <<< ((nI ((k % 8))) &&& 31)) ^^^ (-1))) F.x F.b dX0_isSafe_71 ?_
      refine W.val (y := nI (clr (L 7 2) (k % 8))) (by exact clr_raw (L 7 2) (by omega) (k % 8) (by omega)) ?_
      refine c_st F I 2 (by decide) (show 2 < 3 by omega) dX0_isSafe_72 (fun H locs (I : Iw G A s (cW G o q (S1.1, va_up (va_up S1.2 2 (upd (S1.2 2) (1) (nI (clr (L 7 1) (k / 8))))) 2 (upd (upd (S1.2 2) (1) (nI (clr (L 7 1) (k / 8)))) (2) (nI (clr (L 7 2) (k % 8))))) Y) H locs) => ?_)
      have hS9 := h7.ld (a := clr (L 7 1) (k / 8)) (b := clr (L 7 2) (k % 8)) hS
      have hL9 := hL.l12 (Nat.le_trans (c1 (k / 8)) h71) (Nat.le_trans (c2 (k % 8)) h72)
      refine lv_aload_n F.x F.b dX0_isSafe_73 rfl (lv_at hl 0 rfl) ?_
      refine lv_iload_n F.x F.b dX0_isSafe_74 rfl (lv_at hl 1 rfl) ?_
      refine lv_iload_n F.x F.b dX0_isSafe_75 rfl (lv_at hl 2 rfl) ?_
      refine g_calli I (g_runV (n := 2) (ci := 1) (q0 := 0) (As := [.int (nI (d)), .int (nI (x))]) (rest := []) F I (ct_isBy l G o q ((S1.1, va_up (va_up S1.2 2 (upd (S1.2 2) (1) (nI (clr (L 7 1) (k / 8))))) 2 (upd (upd (S1.2 2) (1) (nI (clr (L 7 1) (k / 8)))) (2) (nI (clr (L 7 2) (k % 8)))))) Y (d) (x) (l12 L (clr (L 7 1) (k / 8)) (clr (L 7 2) (k % 8))) 99 (by exact hL9) (by exact hS9) (by exact hYp) (by omega) (by omega) _) q338 q340 qs6 q52 q341 ⟨rfl, hd_ct_isBy⟩ ⟨Nat.le_of_ble_eq_true rfl, Nat.le_of_ble_eq_true rfl⟩ rfl rfl rfl rfl hl.1 rfl (lv_room (Nat.le_of_ble_eq_true rfl)) dX0_isSafe_76 ⟨by first | exact Nat.le_refl _ | decide, by first | exact Nat.le_refl _ | decide⟩) (fun r Z76 H locs hp I => ?_)
      obtain ⟨rfl, hq76⟩ := hp
      refine W.val (y := bI (sfC L d x (k + 1))) (by rw [sfC, c_35]; simp) ?_
      refine lv_istore (lv' := [(5, .int (bI (sfC L d x (k + 1)))), (0, .ref (o)), (1, .int (nI (d))), (2, .int (nI (x))), (3, .int (nI (L 7 1))), (4, .int (nI (L 7 2))), (6, .int (nI (k)))]) F.x F.b dX0_isSafe_79 hl (by decide) rfl (fun ls hl => ?_)
      refine lv_iinc (v := nI ((k + 1))) (lv' := [(6, .int (nI ((k + 1)))), (5, .int (bI (sfC L d x (k + 1)))), (0, .ref (o)), (1, .int (nI (d))), (2, .int (nI (x))), (3, .int (nI (L 7 1))), (4, .int (nI (L 7 2)))]) F.x F.b dX0_isSafe_81 hl (k := 6) rfl (nI_1 (k)) (by decide) rfl (fun ls hl => ?_)
      refine lv_goto (tgt := 26) F.x F.b dX0_isSafe_84 (by decide) ?_
      exact ih26 _ _ _ _ (by omega) ⟨k + 1, Z76, rfl, by omega, by exact (h7.st _ _).keep hq76, I, lv_sub hl [2, 3, 4, 5, 6, 1, 0] rfl⟩

theorem hd_ct_safe : yX0_safe.cls ≠ "java/lang/invoke/MethodHandle" ∧ yX0_safe.cls ≠ "java/lang/invoke/VarHandle" ∧ (parseMethodDescriptor yX0_safe.desc).map (fun d => d.parameters.length) = some 1 := by decide +kernel
set_option maxHeartbeats 4000000 in
theorem ct_safe (l : Launch) (G : gG) (o : Nat) (q : Nat → Nat) (S : MS) (Y : va_W)  (x : Int32) (L : LD) (hL : LOk L) (hS : cLs S L) (hYp : cYp G o q Y L 99) : gMi l yX0_safe cX0_safe 3 (some .int) ({ frames := 8, cells := 0, slots := 0, locals := 183 } : Room) G [.ref o, .int (x)] (cW G o q S Y) (fun S' => cW G o q S' Y) (fun ρ S' => aSafeC L x = ρ ∧ cKeep S S') := by
  refine gMi_of (by decide) (Nat.le_of_ble_eq_true rfl) ?_
  intro p e s m below meth c ls A F I hl
  have hl : lv_has ls 3 [(0, .ref (o)), (1, .int (x))] := hl
  have hL5 := hL.1
  have hS0 := hS
  obtain ⟨el, hYl, hYr⟩ := id hYp
  refine lv_iload_n F.x F.b dX0_safe_0 rfl (lv_at hl 1 rfl) ?_
  refine g_calli I (g_runS (n := 1) (As := [.int (x)]) (rest := []) F I (ct_isDay l G _ (x)   _) q247 q248 q52 q249 hd_ct_isDay ⟨Nat.le_of_ble_eq_true rfl, Nat.le_of_ble_eq_true rfl⟩ rfl rfl hl.1 rfl (lv_room (Nat.le_of_ble_eq_true rfl)) dX0_safe_1 ⟨by first | exact Nat.le_refl _ | decide, by first | exact Nat.le_refl _ | decide⟩) (fun r u_ H locs hp I => ?_)
  obtain rfl := hp
  refine z_ne (tgt := 10) F dX0_safe_4 (by decide) (fun c_4 => ?_) (fun c_4 => ?_)
  · obtain ⟨j, hj, rfl⟩ := wi_n (m := 7) (by decide) c_4
    have tj : (nI j).toNatClampNeg = j := nI_clamp (by omega)
    refine lv_aload_n F.x F.b dX0_safe_10 rfl (lv_at hl 0 rfl) ?_
    refine g_calli I (g_runV (n := 0) (ci := 1) (q0 := 0) (As := []) (rest := []) F I (ct_noLand l G o q (S) Y  L 99 (by exact hL) (by exact hS) (by exact hYp) _) q252 q254 qs1 q52 q255 ⟨rfl, hd_ct_noLand⟩ ⟨Nat.le_of_ble_eq_true rfl, Nat.le_of_ble_eq_true rfl⟩ rfl rfl rfl rfl hl.1 rfl (lv_room (Nat.le_of_ble_eq_true rfl)) dX0_safe_11 ⟨by first | exact Nat.le_refl _ | decide, by first | exact Nat.le_refl _ | decide⟩) (fun r u_ H locs hp I => ?_)
    obtain ⟨rfl, rfl⟩ := hp
    refine z_eq (tgt := 20) F dX0_safe_14 (by decide) (fun c_14 => ?_) (fun c_14 => ?_)
    · refine lv_iload_n F.x F.b dX0_safe_20 rfl (lv_at hl 1 rfl) ?_
      refine W.val (y := (nI (j + 1) - 1)) (by exact (nI_pred j).symm) ?_
      refine lv_istore_n (lv' := [(2, .int ((nI (j + 1) - 1))), (0, .ref (o)), (1, .int (nI (j)))]) F.x F.b dX0_safe_21 rfl hl (by decide) rfl (fun ls hl => ?_)
      refine W_ind 22 (fun _ => []) (fun n_J => n_J) (fun n_J H locs ls => ∃ (t : Nat) (S1 : MS), n_J = t ∧ (t ≤ j + 1) ∧ (cKeep S S1) ∧ (lastN (fun d => sfC L d j 64) (j + 1) = lastN (fun d => sfC L d j 64) t) ∧  Iw G A s (cW G o q S1 Y) H locs ∧ lv_has ls 3 [(0, .ref (o)), (1, .int (nI (j))), (2, .int ((nI t - 1)))]) ?_ _ ⟨j + 1, S, rfl, by omega, by exact cKeep.rf, by rfl, I, lv_sub hl [1, 2, 0] rfl⟩
      intro n22 H locs ls hJ ih22
      obtain ⟨t, S1, hn22, ht, hk1, hla, I, hl⟩ := hJ
      have hS := cLs_keep hS0 hk1
      refine lv_iload_n F.x F.b dX0_safe_22 rfl (lv_at hl 2 rfl) ?_
      rcases Nat.eq_zero_or_pos t with ht0 | ht0
      · subst ht0
        refine W.val (y := -1) rfl ?_
        refine lv_if_lt (x := (-1)) (tgt := 43) F.x F.b dX0_safe_23 (by decide) (fun c_23 => ?_) (fun c_23 => absurd c_23 (by decide))
        refine lv_bipush (v := (-9)) F.x F.b dX0_safe_43 (by decide) ?_
        exact g_iret (u := S1) F I (by exact ⟨by rw [aSafeC, if_pos c_4, if_neg (by simpa using c_14), tj, hla]; rfl, hk1⟩) dX0_safe_45 (by first | exact Nat.le_refl _ | decide) (by first | exact Nat.le_refl _ | decide)
      · obtain ⟨t1, rfl⟩ : ∃ t1, t = t1 + 1 := ⟨t - 1, by omega⟩
        refine W.val (y := nI t1) (nI_pred t1) ?_
        refine n_if_lt (tgt := 43) F (by omega) dX0_safe_23 (by decide) (fun c_23 => absurd c_23 (by exact fun z9 => z9)) (fun c_23 => ?_)
        refine lv_aload_n F.x F.b dX0_safe_26 rfl (lv_at hl 0 rfl) ?_
        refine lv_iload_n F.x F.b dX0_safe_27 rfl (lv_at hl 2 rfl) ?_
        refine W.val (y := nI (t1)) (by exact nI_pred t1) ?_
        refine lv_iload_n F.x F.b dX0_safe_28 rfl (lv_at hl 1 rfl) ?_
        refine g_calli I (g_runV (n := 2) (ci := 1) (q0 := 0) (As := [.int (nI (t1)), .int (nI (j))]) (rest := []) F I (ct_isSafe l G o q (S1) Y (t1) (j) L (by exact hL) (by exact hS) (by exact hYp) (by omega) (by omega) _) q346 q348 qs7 q52 q349 ⟨rfl, hd_ct_isSafe⟩ ⟨Nat.le_of_ble_eq_true rfl, Nat.le_of_ble_eq_true rfl⟩ rfl rfl rfl rfl hl.1 rfl (lv_room (Nat.le_of_ble_eq_true rfl)) dX0_safe_29 ⟨by first | exact Nat.le_refl _ | decide, by first | exact Nat.le_refl _ | decide⟩) (fun r Z29 H locs hp I => ?_)
        obtain ⟨rfl, hq29⟩ := hp
        refine z_eq (tgt := 37) F dX0_safe_32 (by decide) (fun c_32 => ?_) (fun c_32 => ?_)
        · refine lv_iinc (v := nI t1 - 1) (lv' := [(2, .int ((nI t1 - 1))), (0, .ref (o)), (1, .int (nI (j)))]) F.x F.b dX0_safe_37 hl (k := 2) rfl (dec_ok t1) (by decide) rfl (fun ls hl => ?_)
          refine lv_goto (tgt := 22) F.x F.b dX0_safe_40 (by decide) ?_
          exact ih22 _ _ _ _ (by omega) ⟨t1, Z29, rfl, by omega, by exact hk1.tr hq29, by rw [hla, lastN, if_neg (by simp [c_32])], I, lv_sub hl [1, 2, 0] rfl⟩
        · refine lv_iload_n F.x F.b dX0_safe_35 rfl (lv_at hl 2 rfl) ?_
          refine W.val (y := nI (t1)) (by exact nI_pred t1) ?_
          exact g_iret (u := Z29) F I (by exact ⟨by rw [aSafeC, if_pos c_4, if_neg (by simpa using c_14), tj, hla, lastN, if_pos c_32, eN_i (by omega)], hk1.tr hq29⟩) dX0_safe_36 (by first | exact Nat.le_refl _ | decide) (by first | exact Nat.le_refl _ | decide)
    · refine lv_bipush (v := (-3)) F.x F.b dX0_safe_17 (by decide) ?_
      exact g_iret (u := S) F I (by exact ⟨by simp_all [aSafeC], cKeep.rf⟩) dX0_safe_19 (by first | exact Nat.le_refl _ | decide) (by first | exact Nat.le_refl _ | decide)
  · refine lv_bipush (v := (-2)) F.x F.b dX0_safe_7 (by decide) ?_
    exact g_iret (u := S) F I (by exact ⟨by simp_all [aSafeC], cKeep.rf⟩) dX0_safe_9 (by first | exact Nat.le_refl _ | decide) (by first | exact Nat.le_refl _ | decide)
