/-! THE COMPONENT, peace -/
set_option maxRecDepth 100000
def mrC (z a : Nat) : Nat := if a < 8 ∧ z.testBit a = false then 1 else 0
def adC (z a : Nat) : Nat := if a < 8 ∧ z.testBit a = false then z + 2 ^ a else z
def pcC (L : LD) (d x : Nat) : Nat → Nat
  | 0 => 99
  | k + 1 => if (pcC L d x k = 99 ∨ mrC (L 7 1) (k / 9) + mrC (L 7 2) (k % 9) < pcC L d x k) ∧ pBy (l12 L (adC (L 7 1) (k / 9)) (adC (L 7 2) (k % 9))) 99 d x = true then mrC (L 7 1) (k / 9) + mrC (L 7 2) (k % 9) else pcC L d x k
def aPeaceC (L : LD) (d x : Int32) : Int32 := if mWi d 0 7 && mWi x 0 7 then (if L 5 0 = 0 then -3 else eN (pcC L d.toNatClampNeg x.toNatClampNeg 81)) else -2
theorem mrC_le (z a : Nat) : mrC z a ≤ 1 := by unfold mrC; split <;> omega
theorem pcC_le (L : LD) (d x : Nat) : ∀ k, pcC L d x k = 99 ∨ pcC L d x k ≤ 2
  | 0 => Or.inl rfl
  | k + 1 => by
    have h1 := mrC_le (L 7 1) (k / 9)
    have h2 := mrC_le (L 7 2) (k % 9)
    rw [pcC]; split
    · exact Or.inr (by omega)
    · exact pcC_le L d x k
theorem ad_raw : ∀ z, z < 256 → ∀ a, a < 8 → (nI z ||| (1 <<< (nI a &&& 31))) = nI (adC z a) := by decide +kernel
theorem ad_ge {z a : Nat} (h : 8 ≤ a) : z = adC z a := by unfold adC; rw [if_neg (by omega)]
theorem adC_le : ∀ z, z < 256 → ∀ a, a < 9 → adC z a ≤ 255 := by decide +kernel

theorem hd_ct_peaceBy : yX0_peaceBy.cls ≠ "java/lang/invoke/MethodHandle" ∧ yX0_peaceBy.cls ≠ "java/lang/invoke/VarHandle" ∧ (parseMethodDescriptor yX0_peaceBy.desc).map (fun d => d.parameters.length) = some 2 := by decide +kernel
set_option maxHeartbeats 4000000 in
theorem ct_peaceBy (l : Launch) (G : gG) (o : Nat) (q : Nat → Nat) (S : MS) (Y : va_W)  (d : Nat) (x : Nat) (L : LD) (hL : LOk L) (hS : cLs S L) (hYp : cYp G o q Y L 99) (hd : d < 8) (hx : x < 8) : gMi l yX0_peaceBy cX0_peaceBy 10 (some .int) ({ frames := 7, cells := 0, slots := 0, locals := 157 } : Room) G [.ref o, .int (nI (d)), .int (nI (x))] (cW G o q S Y) (fun S' => cW G o q S' Y) (fun ρ S' => eN (pcC L d x 81) = ρ ∧ cKeep S S') := by
  refine gMi_of (by decide) (Nat.le_of_ble_eq_true rfl) ?_
  intro p e s m below meth c ls A F I hl
  have hl : lv_has ls 10 [(0, .ref (o)), (1, .int (nI (d))), (2, .int (nI (x)))] := hl
  have hL5 := hL.1
  have hS0 := hS
  obtain ⟨el, hYl, hYr⟩ := id hYp
  have h71 := hL.2.2.2 1 (by omega)
  have h72 := hL.2.2.2 2 (by omega)
  have hpc := pcC_le L d x
  refine lv_aload_n F.x F.b dX0_peaceBy_0 rfl (lv_at hl 0 rfl) ?_
  refine c_getr F I 2 (by decide) q126 dX0_peaceBy_1 ?_
  refine lv_iconst (v := nI (1)) F.x F.b dX0_peaceBy_4 (by decide) ?_
  refine c_ld (v := ((S.2 2) (1))) F I 2 (by decide) (show 1 < 3 by omega) rfl dX0_peaceBy_5 ?_
  refine W.val (y := nI (L 7 1)) (by exact hS.2 1 (by omega)) ?_
  refine lv_istore_n (lv' := [(3, .int (nI (L 7 1))), (0, .ref (o)), (1, .int (nI (d))), (2, .int (nI (x)))]) F.x F.b dX0_peaceBy_6 rfl hl (by decide) rfl (fun ls hl => ?_)
  refine lv_aload_n F.x F.b dX0_peaceBy_7 rfl (lv_at hl 1 rfl) ?_
  refine c_getr F I 2 (by decide) q126 dX0_peaceBy_8 ?_
  refine lv_iconst (v := nI (2)) F.x F.b dX0_peaceBy_11 (by decide) ?_
  refine c_ld (v := ((S.2 2) (2))) F I 2 (by decide) (show 2 < 3 by omega) rfl dX0_peaceBy_12 ?_
  refine W.val (y := nI (L 7 2)) (by exact hS.2 2 (by omega)) ?_
  refine lv_istore (lv' := [(4, .int (nI (L 7 2))), (3, .int (nI (L 7 1))), (0, .ref (o)), (1, .int (nI (d))), (2, .int (nI (x)))]) F.x F.b dX0_peaceBy_13 hl (by decide) rfl (fun ls hl => ?_)
  refine lv_bipush (v := (-9)) F.x F.b dX0_peaceBy_15 (by decide) ?_
  refine W.val (y := eN (pcC L d x 0)) (by rfl) ?_
  refine lv_istore (lv' := [(5, .int (eN (pcC L d x 0))), (4, .int (nI (L 7 2))), (3, .int (nI (L 7 1))), (0, .ref (o)), (1, .int (nI (d))), (2, .int (nI (x)))]) F.x F.b dX0_peaceBy_17 hl (by decide) rfl (fun ls hl => ?_)
  refine lv_iconst (v := nI (0)) F.x F.b dX0_peaceBy_19 (by decide) ?_
  refine lv_istore (lv' := [(6, .int (nI (0))), (5, .int (eN (pcC L d x 0))), (4, .int (nI (L 7 2))), (3, .int (nI (L 7 1))), (0, .ref (o)), (1, .int (nI (d))), (2, .int (nI (x)))]) F.x F.b dX0_peaceBy_20 hl (by decide) rfl (fun ls hl => ?_)
  refine W_ind 22 (fun _ => []) (fun n_J => n_J) (fun n_J H locs ls => ∃ (k : Nat) (S1 : MS), n_J = 81 - k ∧ (k ≤ 81) ∧ (cK7 S S1) ∧  Iw G A s (cW G o q S1 Y) H locs ∧ lv_has ls 10 [(0, .ref (o)), (1, .int (nI (d))), (2, .int (nI (x))), (3, .int (nI (L 7 1))), (4, .int (nI (L 7 2))), (5, .int (eN (pcC L d x k))), (6, .int (nI (k)))]) ?_ _ ⟨0, S, rfl, by omega, by exact cK7.rf, I, lv_sub hl [4, 5, 6, 3, 2, 1, 0] rfl⟩
  intro n22 H locs ls hJ ih22
  obtain ⟨k, S1, hn22, hk, h7, I, hl⟩ := hJ
  refine lv_iload F.x F.b dX0_peaceBy_22 (lv_at hl 6 rfl) ?_
  refine lv_bipush (v := nI (81)) F.x F.b dX0_peaceBy_24 (by decide) ?_
  refine n_icmp_ge (tgt := 173) F (by omega) (by omega) dX0_peaceBy_26 (by decide) (fun c_26 => ?_) (fun c_26 => ?_)
  · refine lv_aload_n F.x F.b dX0_peaceBy_173 rfl (lv_at hl 0 rfl) ?_
    refine c_getr F I 2 (by decide) q126 dX0_peaceBy_174 ?_
    refine lv_iconst (v := nI (1)) F.x F.b dX0_peaceBy_177 (by decide) ?_
    refine lv_iload_n F.x F.b dX0_peaceBy_178 rfl (lv_at hl 3 rfl) ?_
    refine c_st F I 2 (by decide) (show 1 < 3 by omega) dX0_peaceBy_179 (fun H locs (I : Iw G A s (cW G o q (S1.1, va_up S1.2 2 (upd (S1.2 2) (1) (nI (L 7 1)))) Y) H locs) => ?_)
    refine lv_aload_n F.x F.b dX0_peaceBy_180 rfl (lv_at hl 0 rfl) ?_
    refine c_getr F I 2 (by decide) q126 dX0_peaceBy_181 ?_
    refine lv_iconst (v := nI (2)) F.x F.b dX0_peaceBy_184 (by decide) ?_
    refine lv_iload F.x F.b dX0_peaceBy_185 (lv_at hl 4 rfl) ?_
    refine c_st F I 2 (by decide) (show 2 < 3 by omega) dX0_peaceBy_187 (fun H locs (I : Iw G A s (cW G o q (S1.1, va_up (va_up S1.2 2 (upd (S1.2 2) (1) (nI (L 7 1)))) 2 (upd (upd (S1.2 2) (1) (nI (L 7 1))) (2) (nI (L 7 2)))) Y) H locs) => ?_)
    refine lv_iload F.x F.b dX0_peaceBy_188 (lv_at hl 5 rfl) ?_
    exact g_iret (u := (S1.1, va_up (va_up S1.2 2 (upd (S1.2 2) (1) (nI (L 7 1)))) 2 (upd (upd (S1.2 2) (1) (nI (L 7 1))) (2) (nI (L 7 2))))) F I (by exact ⟨by rw [show k = 81 by omega], h7.done hS⟩) dX0_peaceBy_190 (by first | exact Nat.le_refl _ | decide) (by first | exact Nat.le_refl _ | decide)
  · refine lv_iload F.x F.b dX0_peaceBy_29 (lv_at hl 6 rfl) ?_
    refine lv_bipush (v := nI (9)) F.x F.b dX0_peaceBy_31 (by decide) ?_
    refine n_idiv F dX0_peaceBy_33 (by omega) (by omega) (by omega) ?_
    refine lv_istore (lv' := [(7, .int (nI ((k / 9)))), (0, .ref (o)), (1, .int (nI (d))), (2, .int (nI (x))), (3, .int (nI (L 7 1))), (4, .int (nI (L 7 2))), (5, .int (eN (pcC L d x k))), (6, .int (nI (k)))]) F.x F.b dX0_peaceBy_34 hl (by decide) rfl (fun ls hl => ?_)
    refine lv_iload F.x F.b dX0_peaceBy_36 (lv_at hl 7 rfl) ?_
    refine lv_bipush (v := nI (9)) F.x F.b dX0_peaceBy_38 (by decide) ?_
    refine n_irem F dX0_peaceBy_40 (by omega) (by omega) (by omega) ?_
    refine lv_istore (lv' := [(8, .int (nI ((k % 9)))), (7, .int (nI ((k / 9)))), (0, .ref (o)), (1, .int (nI (d))), (2, .int (nI (x))), (3, .int (nI (L 7 1))), (4, .int (nI (L 7 2))), (5, .int (eN (pcC L d x k))), (6, .int (nI (k)))]) F.x F.b dX0_peaceBy_41 hl (by decide) rfl (fun ls hl => ?_)
    have m1 := mrC_le (L 7 1) (k / 9)
    have m2 := mrC_le (L 7 2) (k % 9)
    have hpk := hpc k
    refine lv_iload F.x F.b dX0_peaceBy_43 (lv_at hl 1 rfl) ?_
    refine lv_bipush (v := nI (8)) F.x F.b dX0_peaceBy_45 (by decide) ?_
    refine W_cut (α := Nat) (cells := 0) (slots := 0) 64 (fun mm => [.int (nI (mm))]) (fun mm H locs ls => (mm = mrC (L 7 1) (k / 9)) ∧ Iw G A s (cW G o q S1 Y) H locs ∧ lv_has ls 10 [(0, .ref (o)), (1, .int (nI (d))), (2, .int (nI (x))), (3, .int (nI (L 7 1))), (4, .int (nI (L 7 2))), (5, .int (eN (pcC L d x k))), (6, .int (nI (k))), (7, .int (nI ((k / 9)))), (8, .int (nI ((k % 9))))]) (fun J64 => ?_) ?_
    · refine n_icmp_ge (tgt := 63) F (by omega) (by omega) dX0_peaceBy_47 (by decide) (fun c_47 => ?_) (fun c_47 => ?_)
      · refine lv_iconst (v := nI (0)) F.x F.b dX0_peaceBy_63 (by decide) ?_
        exact J64 (0) _ _ _ ⟨by unfold mrC; first | exact (if_pos ⟨c_47, c_56⟩).symm | exact (if_neg (fun z => by have := z.1; omega)).symm | exact (if_neg (fun z => by have := z.2; simp_all)).symm, I, lv_sub hl [2, 3, 4, 5, 6, 7, 8, 1, 0] rfl⟩
      · refine lv_iload_n F.x F.b dX0_peaceBy_50 rfl (lv_at hl 5 rfl) ?_
        refine lv_iload F.x F.b dX0_peaceBy_51 (lv_at hl 1 rfl) ?_
        refine g_calli I (g_runS (n := 2) (As := [.int (nI (L 7 1)), .int (nI ((k / 9)))]) (rest := []) F I (ct_isIn l G _ ((nI (L 7 1))) ((k / 9))   _) q306 q307 q52 q308 hd_ct_isIn ⟨Nat.le_of_ble_eq_true rfl, Nat.le_of_ble_eq_true rfl⟩ rfl rfl hl.1 rfl (lv_room (Nat.le_of_ble_eq_true rfl)) dX0_peaceBy_53 ⟨by first | exact Nat.le_refl _ | decide, by first | exact Nat.le_refl _ | decide⟩) (fun r u_ H locs hp I => ?_)
        obtain rfl := hp
        refine W.val (y := bI ((L 7 1).testBit (k / 9))) (by exact congrArg bI (gv_bit (L 7 1) (by omega) (k / 9) (by omega))) ?_
        refine z_ne (tgt := 63) F dX0_peaceBy_56 (by decide) (fun c_56 => ?_) (fun c_56 => ?_)
        · refine lv_iconst (v := nI (0)) F.x F.b dX0_peaceBy_63 (by decide) ?_
          exact J64 (0) _ _ _ ⟨by unfold mrC; first | exact (if_pos ⟨c_47, c_56⟩).symm | exact (if_neg (fun z => by have := z.1; omega)).symm | exact (if_neg (fun z => by have := z.2; simp_all)).symm, I, lv_sub hl [2, 3, 4, 5, 6, 7, 8, 1, 0] rfl⟩
        · refine lv_iconst (v := nI (1)) F.x F.b dX0_peaceBy_59 (by decide) ?_
          refine lv_goto (tgt := 64) F.x F.b dX0_peaceBy_60 (by decide) ?_
          exact J64 (1) _ _ _ ⟨by unfold mrC; first | exact (if_pos ⟨c_47, c_56⟩).symm | exact (if_neg (fun z => by have := z.1; omega)).symm | exact (if_neg (fun z => by have := z.2; simp_all)).symm, I, lv_sub hl [2, 3, 4, 5, 6, 7, 8, 1, 0] rfl⟩
    · intro mm H locs ls hJ
      obtain ⟨hm1, I, hl⟩ := hJ
      refine lv_iload F.x F.b dX0_peaceBy_64 (lv_at hl 8 rfl) ?_
      refine lv_bipush (v := nI (8)) F.x F.b dX0_peaceBy_66 (by decide) ?_
      refine W_cut (α := Nat) (cells := 0) (slots := 0) 86 (fun mn => [.int (nI (mn)), .int (nI (mm))]) (fun mn H locs ls => (mn = mrC (L 7 2) (k % 9)) ∧ Iw G A s (cW G o q S1 Y) H locs ∧ lv_has ls 10 [(0, .ref (o)), (1, .int (nI (d))), (2, .int (nI (x))), (3, .int (nI (L 7 1))), (4, .int (nI (L 7 2))), (5, .int (eN (pcC L d x k))), (6, .int (nI (k))), (7, .int (nI ((k / 9)))), (8, .int (nI ((k % 9))))]) (fun J86 => ?_) ?_
      · refine n_icmp_ge (tgt := 85) F (by omega) (by omega) dX0_peaceBy_68 (by decide) (fun c_68 => ?_) (fun c_68 => ?_)
        · refine lv_iconst (v := nI (0)) F.x F.b dX0_peaceBy_85 (by decide) ?_
          exact J86 (0) _ _ _ ⟨by unfold mrC; first | exact (if_pos ⟨c_68, c_78⟩).symm | exact (if_neg (fun z => by have := z.1; omega)).symm | exact (if_neg (fun z => by have := z.2; simp_all)).symm, I, lv_sub hl [0, 1, 2, 3, 4, 5, 6, 7, 8] rfl⟩
        · refine lv_iload F.x F.b dX0_peaceBy_71 (lv_at hl 4 rfl) ?_
          refine lv_iload F.x F.b dX0_peaceBy_73 (lv_at hl 8 rfl) ?_
          refine g_calli I (g_runS (n := 2) (As := [.int (nI (L 7 2)), .int (nI ((k % 9)))]) (rest := [.int (nI (mm))]) F I (ct_isIn l G _ ((nI (L 7 2))) ((k % 9))   _) q306 q307 q52 q308 hd_ct_isIn ⟨Nat.le_of_ble_eq_true rfl, Nat.le_of_ble_eq_true rfl⟩ rfl rfl hl.1 rfl (lv_room (Nat.le_of_ble_eq_true rfl)) dX0_peaceBy_75 ⟨by first | exact Nat.le_refl _ | decide, by first | exact Nat.le_refl _ | decide⟩) (fun r u_ H locs hp I => ?_)
          obtain rfl := hp
          refine W.val (y := bI ((L 7 2).testBit (k % 9))) (by exact congrArg bI (gv_bit (L 7 2) (by omega) (k % 9) (by omega))) ?_
          refine z_ne (tgt := 85) F dX0_peaceBy_78 (by decide) (fun c_78 => ?_) (fun c_78 => ?_)
          · refine lv_iconst (v := nI (0)) F.x F.b dX0_peaceBy_85 (by decide) ?_
            exact J86 (0) _ _ _ ⟨by unfold mrC; first | exact (if_pos ⟨c_68, c_78⟩).symm | exact (if_neg (fun z => by have := z.1; omega)).symm | exact (if_neg (fun z => by have := z.2; simp_all)).symm, I, lv_sub hl [0, 1, 2, 3, 4, 5, 6, 7, 8] rfl⟩
          · refine lv_iconst (v := nI (1)) F.x F.b dX0_peaceBy_81 (by decide) ?_
            refine lv_goto (tgt := 86) F.x F.b dX0_peaceBy_82 (by decide) ?_
            exact J86 (1) _ _ _ ⟨by unfold mrC; first | exact (if_pos ⟨c_68, c_78⟩).symm | exact (if_neg (fun z => by have := z.1; omega)).symm | exact (if_neg (fun z => by have := z.2; simp_all)).symm, I, lv_sub hl [0, 1, 2, 3, 4, 5, 6, 7, 8] rfl⟩
      · intro mn H locs ls hJ
        obtain ⟨hm2, I, hl⟩ := hJ
        refine n_iadd F dX0_peaceBy_86 ?_
        refine lv_istore (lv' := [(9, .int (nI ((mm + mn)))), (0, .ref (o)), (1, .int (nI (d))), (2, .int (nI (x))), (3, .int (nI (L 7 1))), (4, .int (nI (L 7 2))), (5, .int (eN (pcC L d x k))), (6, .int (nI (k))), (7, .int (nI ((k / 9)))), (8, .int (nI ((k % 9))))]) F.x F.b dX0_peaceBy_87 hl (by decide) rfl (fun ls hl => ?_)
        refine W_cut (α := Nat) (cells := 0) (slots := 0) 167 (fun _ => []) (fun _ H locs ls => ∃ (S2 : MS), ∃ (fw : Nat), (cK7 S S2) ∧ (fw = pcC L d x (k + 1)) ∧ Iw G A s (cW G o q S2 Y) H locs ∧ lv_has ls 10 [(0, .ref (o)), (1, .int (nI (d))), (2, .int (nI (x))), (3, .int (nI (L 7 1))), (4, .int (nI (L 7 2))), (5, .int (eN (fw))), (6, .int (nI (k)))]) (fun J167 => ?_) ?_
        · refine lv_iload F.x F.b dX0_peaceBy_89 (lv_at hl 6 rfl) ?_
          refine W_cut (α := Nat) (cells := 0) (slots := 0) 101 (fun _ => []) (fun _ H locs ls => (pcC L d x k = 99 ∨ mm + mn < pcC L d x k) ∧ Iw G A s (cW G o q S1 Y) H locs ∧ lv_has ls 10 [(0, .ref (o)), (1, .int (nI (d))), (2, .int (nI (x))), (3, .int (nI (L 7 1))), (4, .int (nI (L 7 2))), (5, .int (eN (pcC L d x k))), (6, .int (nI (k))), (7, .int (nI ((k / 9)))), (8, .int (nI ((k % 9)))), (9, .int (nI ((mm + mn))))]) (fun J101 => ?_) ?_
          · refine e_lt (tgt := 101) F (by omega) dX0_peaceBy_91 (by decide) (fun c_91 => ?_) (fun c_91 => ?_)
            · exact J101 0 _ _ _ ⟨by first | exact Or.inl c_91 | exact Or.inr c_98, I, lv_sub hl [1, 2, 3, 4, 5, 6, 7, 8, 9, 0] rfl⟩
            · refine lv_iload F.x F.b dX0_peaceBy_94 (lv_at hl 0 rfl) ?_
              refine lv_iload F.x F.b dX0_peaceBy_96 (lv_at hl 6 rfl) ?_
              refine W.val (y := nI (pcC L d x k)) (by exact eN_i c_91) ?_
              refine n_icmp_ge (tgt := 167) F (by omega) (by omega) dX0_peaceBy_98 (by decide) (fun c_98 => ?_) (fun c_98 => ?_)
              · exact J167 0 _ _ _ ⟨S1, pcC L d x k, by first | exact (h7.st _ _).keep hq152 | exact h7, by first | rfl | (subst hm1; subst hm2; rw [pcC, if_neg (by omega)]), I, lv_sub hl [1, 2, 3, 4, 5, 6, 7] rfl⟩
              · exact J101 0 _ _ _ ⟨by first | exact Or.inl c_91 | exact Or.inr c_98, I, lv_sub hl [1, 2, 3, 4, 5, 6, 7, 8, 9, 0] rfl⟩
          · intro _ H locs ls hJ
            obtain ⟨hlt, I, hl⟩ := hJ
            refine lv_aload_n F.x F.b dX0_peaceBy_101 rfl (lv_at hl 0 rfl) ?_
            refine c_getr F I 2 (by decide) q126 dX0_peaceBy_102 ?_
            refine lv_iconst (v := nI (1)) F.x F.b dX0_peaceBy_105 (by decide) ?_
            refine lv_iload F.x F.b dX0_peaceBy_106 (lv_at hl 7 rfl) ?_
            refine lv_bipush (v := nI (8)) F.x F.b dX0_peaceBy_108 (by decide) ?_
            refine n_icmp_ge (tgt := 122) F (by omega) (by omega) dX0_peaceBy_110 (by decide) (fun c_110 => ?_) (fun c_110 => ?_)
            · refine lv_iload_n F.x F.b dX0_peaceBy_122 rfl (lv_at hl 3 rfl) ?_
              refine W.val (y := nI (adC (L 7 1) (k / 9))) (by exact congrArg nI (ad_ge (by omega))) ?_
              refine c_st F I 2 (by decide) (show 1 < 3 by omega) dX0_peaceBy_123 (fun H locs (I : Iw G A s (cW G o q (S1.1, va_up S1.2 2 (upd (S1.2 2) (1) (nI (adC (L 7 1) (k / 9))))) Y) H locs) => ?_)
              refine lv_aload_n F.x F.b dX0_peaceBy_124 rfl (lv_at hl 0 rfl) ?_
              refine c_getr F I 2 (by decide) q126 dX0_peaceBy_125 ?_
              refine lv_iconst (v := nI (2)) F.x F.b dX0_peaceBy_128 (by decide) ?_
              refine lv_iload F.x F.b dX0_peaceBy_129 (lv_at hl 8 rfl) ?_
              refine lv_bipush (v := nI (8)) F.x F.b dX0_peaceBy_131 (by decide) ?_
              refine n_icmp_ge (tgt := 146) F (by omega) (by omega) dX0_peaceBy_133 (by decide) (fun c_133 => ?_) (fun c_133 => ?_)
              · refine lv_iload F.x F.b dX0_peaceBy_146 (lv_at hl 4 rfl) ?_
                refine W.val (y := nI (adC (L 7 2) (k % 9))) (by exact congrArg nI (ad_ge (by omega))) ?_
                refine c_st F I 2 (by decide) (show 2 < 3 by omega) dX0_peaceBy_148 (fun H locs (I : Iw G A s (cW G o q (S1.1, va_up (va_up S1.2 2 (upd (S1.2 2) (1) (nI (adC (L 7 1) (k / 9))))) 2 (upd (upd (S1.2 2) (1) (nI (adC (L 7 1) (k / 9)))) (2) (nI (adC (L 7 2) (k % 9))))) Y) H locs) => ?_)
                have hS9 := h7.ld (a := adC (L 7 1) (k / 9)) (b := adC (L 7 2) (k % 9)) hS
                have hL9 := hL.l12 (adC_le (L 7 1) (by omega) (k / 9) (by omega)) (adC_le (L 7 2) (by omega) (k % 9) (by omega))
                refine lv_aload_n F.x F.b dX0_peaceBy_149 rfl (lv_at hl 0 rfl) ?_
                refine lv_iload_n F.x F.b dX0_peaceBy_150 rfl (lv_at hl 1 rfl) ?_
                refine lv_iload_n F.x F.b dX0_peaceBy_151 rfl (lv_at hl 2 rfl) ?_
                refine g_calli I (g_runV (n := 2) (ci := 1) (q0 := 0) (As := [.int (nI (d)), .int (nI (x))]) (rest := []) F I (ct_isBy l G o q ((S1.1, va_up (va_up S1.2 2 (upd (S1.2 2) (1) (nI (adC (L 7 1) (k / 9))))) 2 (upd (upd (S1.2 2) (1) (nI (adC (L 7 1) (k / 9)))) (2) (nI (adC (L 7 2) (k % 9)))))) Y (d) (x) (l12 L (adC (L 7 1) (k / 9)) (adC (L 7 2) (k % 9))) 99 (by exact hL9) (by exact hS9) (by exact hYp) (by omega) (by omega) _) q338 q340 qs6 q52 q341 ⟨rfl, hd_ct_isBy⟩ ⟨Nat.le_of_ble_eq_true rfl, Nat.le_of_ble_eq_true rfl⟩ rfl rfl rfl rfl hl.1 rfl (lv_room (Nat.le_of_ble_eq_true rfl)) dX0_peaceBy_152 ⟨by first | exact Nat.le_refl _ | decide, by first | exact Nat.le_refl _ | decide⟩) (fun r Z152 H locs hp I => ?_)
                obtain ⟨rfl, hq152⟩ := hp
                refine z_eq (tgt := 163) F dX0_peaceBy_155 (by decide) (fun c_155 => ?_) (fun c_155 => ?_)
                · refine lv_iload F.x F.b dX0_peaceBy_163 (lv_at hl 5 rfl) ?_
                  refine W.val (y := eN (pcC L d x (k + 1))) (by rw [pcC, if_neg (by simp [c_155])]) ?_
                  refine lv_istore (lv' := [(5, .int (eN (pcC L d x (k + 1)))), (0, .ref (o)), (1, .int (nI (d))), (2, .int (nI (x))), (3, .int (nI (L 7 1))), (4, .int (nI (L 7 2))), (6, .int (nI (k))), (7, .int (nI ((k / 9)))), (8, .int (nI ((k % 9)))), (9, .int (nI ((mm + mn))))]) F.x F.b dX0_peaceBy_165 hl (by decide) rfl (fun ls hl => ?_)
                  exact J167 0 _ _ _ ⟨Z152, pcC L d x (k + 1), by first | exact (h7.st _ _).keep hq152 | exact h7, by first | rfl | (subst hm1; subst hm2; rw [pcC, if_neg (by omega)]), I, lv_sub hl [1, 2, 3, 4, 5, 0, 6] rfl⟩
                · refine lv_iload F.x F.b dX0_peaceBy_158 (lv_at hl 9 rfl) ?_
                  refine lv_goto (tgt := 165) F.x F.b dX0_peaceBy_160 (by decide) ?_
                  refine W.val (y := eN (pcC L d x (k + 1))) (by subst hm1; subst hm2; rw [pcC, if_pos ⟨hlt, c_155⟩, eN_i (by omega)]) ?_
                  refine lv_istore (lv' := [(5, .int (eN (pcC L d x (k + 1)))), (0, .ref (o)), (1, .int (nI (d))), (2, .int (nI (x))), (3, .int (nI (L 7 1))), (4, .int (nI (L 7 2))), (6, .int (nI (k))), (7, .int (nI ((k / 9)))), (8, .int (nI ((k % 9)))), (9, .int (nI ((mm + mn))))]) F.x F.b dX0_peaceBy_165 hl (by decide) rfl (fun ls hl => ?_)
                  exact J167 0 _ _ _ ⟨Z152, pcC L d x (k + 1), by first | exact (h7.st _ _).keep hq152 | exact h7, by first | rfl | (subst hm1; subst hm2; rw [pcC, if_neg (by omega)]), I, lv_sub hl [1, 2, 3, 4, 5, 0, 6] rfl⟩
              · refine lv_iload F.x F.b dX0_peaceBy_136 (lv_at hl 4 rfl) ?_
                refine lv_iconst (v := nI (1)) F.x F.b dX0_peaceBy_138 (by decide) ?_
                refine lv_iload F.x F.b dX0_peaceBy_139 (lv_at hl 8 rfl) ?_
                refine lv_ishl (x := 1) (y := (nI ((k % 9)))) F.x F.b dX0_peaceBy_141 ?_
                refine lv_ior (x := (nI (L 7 2))) (y := (1 <<< ((nI ((k % 9))) &&& 31))) F.x F.b dX0_peaceBy_142 ?_
                refine lv_goto (tgt := 148) F.x F.b dX0_peaceBy_143 (by decide) ?_
                refine W.val (y := nI (adC (L 7 2) (k % 9))) (by exact ad_raw (L 7 2) (by omega) (k % 9) (by omega)) ?_
                refine c_st F I 2 (by decide) (show 2 < 3 by omega) dX0_peaceBy_148 (fun H locs (I : Iw G A s (cW G o q (S1.1, va_up (va_up S1.2 2 (upd (S1.2 2) (1) (nI (adC (L 7 1) (k / 9))))) 2 (upd (upd (S1.2 2) (1) (nI (adC (L 7 1) (k / 9)))) (2) (nI (adC (L 7 2) (k % 9))))) Y) H locs) => ?_)
                have hS9 := h7.ld (a := adC (L 7 1) (k / 9)) (b := adC (L 7 2) (k % 9)) hS
                have hL9 := hL.l12 (adC_le (L 7 1) (by omega) (k / 9) (by omega)) (adC_le (L 7 2) (by omega) (k % 9) (by omega))
                refine lv_aload_n F.x F.b dX0_peaceBy_149 rfl (lv_at hl 0 rfl) ?_
                refine lv_iload_n F.x F.b dX0_peaceBy_150 rfl (lv_at hl 1 rfl) ?_
                refine lv_iload_n F.x F.b dX0_peaceBy_151 rfl (lv_at hl 2 rfl) ?_
                refine g_calli I (g_runV (n := 2) (ci := 1) (q0 := 0) (As := [.int (nI (d)), .int (nI (x))]) (rest := []) F I (ct_isBy l G o q ((S1.1, va_up (va_up S1.2 2 (upd (S1.2 2) (1) (nI (adC (L 7 1) (k / 9))))) 2 (upd (upd (S1.2 2) (1) (nI (adC (L 7 1) (k / 9)))) (2) (nI (adC (L 7 2) (k % 9)))))) Y (d) (x) (l12 L (adC (L 7 1) (k / 9)) (adC (L 7 2) (k % 9))) 99 (by exact hL9) (by exact hS9) (by exact hYp) (by omega) (by omega) _) q338 q340 qs6 q52 q341 ⟨rfl, hd_ct_isBy⟩ ⟨Nat.le_of_ble_eq_true rfl, Nat.le_of_ble_eq_true rfl⟩ rfl rfl rfl rfl hl.1 rfl (lv_room (Nat.le_of_ble_eq_true rfl)) dX0_peaceBy_152 ⟨by first | exact Nat.le_refl _ | decide, by first | exact Nat.le_refl _ | decide⟩) (fun r Z152 H locs hp I => ?_)
                obtain ⟨rfl, hq152⟩ := hp
                refine z_eq (tgt := 163) F dX0_peaceBy_155 (by decide) (fun c_155 => ?_) (fun c_155 => ?_)
                · refine lv_iload F.x F.b dX0_peaceBy_163 (lv_at hl 5 rfl) ?_
                  refine W.val (y := eN (pcC L d x (k + 1))) (by rw [pcC, if_neg (by simp [c_155])]) ?_
                  refine lv_istore (lv' := [(5, .int (eN (pcC L d x (k + 1)))), (0, .ref (o)), (1, .int (nI (d))), (2, .int (nI (x))), (3, .int (nI (L 7 1))), (4, .int (nI (L 7 2))), (6, .int (nI (k))), (7, .int (nI ((k / 9)))), (8, .int (nI ((k % 9)))), (9, .int (nI ((mm + mn))))]) F.x F.b dX0_peaceBy_165 hl (by decide) rfl (fun ls hl => ?_)
                  exact J167 0 _ _ _ ⟨Z152, pcC L d x (k + 1), by first | exact (h7.st _ _).keep hq152 | exact h7, by first | rfl | (subst hm1; subst hm2; rw [pcC, if_neg (by omega)]), I, lv_sub hl [1, 2, 3, 4, 5, 0, 6] rfl⟩
                · refine lv_iload F.x F.b dX0_peaceBy_158 (lv_at hl 9 rfl) ?_
                  refine lv_goto (tgt := 165) F.x F.b dX0_peaceBy_160 (by decide) ?_
                  refine W.val (y := eN (pcC L d x (k + 1))) (by subst hm1; subst hm2; rw [pcC, if_pos ⟨hlt, c_155⟩, eN_i (by omega)]) ?_
                  refine lv_istore (lv' := [(5, .int (eN (pcC L d x (k + 1)))), (0, .ref (o)), (1, .int (nI (d))), (2, .int (nI (x))), (3, .int (nI (L 7 1))), (4, .int (nI (L 7 2))), (6, .int (nI (k))), (7, .int (nI ((k / 9)))), (8, .int (nI ((k % 9)))), (9, .int (nI ((mm + mn))))]) F.x F.b dX0_peaceBy_165 hl (by decide) rfl (fun ls hl => ?_)
                  exact J167 0 _ _ _ ⟨Z152, pcC L d x (k + 1), by first | exact (h7.st _ _).keep hq152 | exact h7, by first | rfl | (subst hm1; subst hm2; rw [pcC, if_neg (by omega)]), I, lv_sub hl [1, 2, 3, 4, 5, 0, 6] rfl⟩
            · refine lv_iload_n F.x F.b dX0_peaceBy_113 rfl (lv_at hl 3 rfl) ?_
              refine lv_iconst (v := nI (1)) F.x F.b dX0_peaceBy_114 (by decide) ?_
              refine lv_iload F.x F.b dX0_peaceBy_115 (lv_at hl 7 rfl) ?_
              refine lv_ishl (x := 1) (y := (nI ((k / 9)))) F.x F.b dX0_peaceBy_117 ?_
              refine lv_ior (x := (nI (L 7 1))) (y := (1 <<< ((nI ((k / 9))) &&& 31))) F.x F.b dX0_peaceBy_118 ?_
              refine lv_goto (tgt := 123) F.x F.b dX0_peaceBy_119 (by decide) ?_
              refine W.val (y := nI (adC (L 7 1) (k / 9))) (by exact ad_raw (L 7 1) (by omega) (k / 9) (by omega)) ?_
              refine c_st F I 2 (by decide) (show 1 < 3 by omega) dX0_peaceBy_123 (fun H locs (I : Iw G A s (cW G o q (S1.1, va_up S1.2 2 (upd (S1.2 2) (1) (nI (adC (L 7 1) (k / 9))))) Y) H locs) => ?_)
              refine lv_aload_n F.x F.b dX0_peaceBy_124 rfl (lv_at hl 0 rfl) ?_
              refine c_getr F I 2 (by decide) q126 dX0_peaceBy_125 ?_
              refine lv_iconst (v := nI (2)) F.x F.b dX0_peaceBy_128 (by decide) ?_
              refine lv_iload F.x F.b dX0_peaceBy_129 (lv_at hl 8 rfl) ?_
              refine lv_bipush (v := nI (8)) F.x F.b dX0_peaceBy_131 (by decide) ?_
              refine n_icmp_ge (tgt := 146) F (by omega) (by omega) dX0_peaceBy_133 (by decide) (fun c_133 => ?_) (fun c_133 => ?_)
              · refine lv_iload F.x F.b dX0_peaceBy_146 (lv_at hl 4 rfl) ?_
                refine W.val (y := nI (adC (L 7 2) (k % 9))) (by exact congrArg nI (ad_ge (by omega))) ?_
                refine c_st F I 2 (by decide) (show 2 < 3 by omega) dX0_peaceBy_148 (fun H locs (I : Iw G A s (cW G o q (S1.1, va_up (va_up S1.2 2 (upd (S1.2 2) (1) (nI (adC (L 7 1) (k / 9))))) 2 (upd (upd (S1.2 2) (1) (nI (adC (L 7 1) (k / 9)))) (2) (nI (adC (L 7 2) (k % 9))))) Y) H locs) => ?_)
                have hS9 := h7.ld (a := adC (L 7 1) (k / 9)) (b := adC (L 7 2) (k % 9)) hS
                have hL9 := hL.l12 (adC_le (L 7 1) (by omega) (k / 9) (by omega)) (adC_le (L 7 2) (by omega) (k % 9) (by omega))
                refine lv_aload_n F.x F.b dX0_peaceBy_149 rfl (lv_at hl 0 rfl) ?_
                refine lv_iload_n F.x F.b dX0_peaceBy_150 rfl (lv_at hl 1 rfl) ?_
                refine lv_iload_n F.x F.b dX0_peaceBy_151 rfl (lv_at hl 2 rfl) ?_
                refine g_calli I (g_runV (n := 2) (ci := 1) (q0 := 0) (As := [.int (nI (d)), .int (nI (x))]) (rest := []) F I (ct_isBy l G o q ((S1.1, va_up (va_up S1.2 2 (upd (S1.2 2) (1) (nI (adC (L 7 1) (k / 9))))) 2 (upd (upd (S1.2 2) (1) (nI (adC (L 7 1) (k / 9)))) (2) (nI (adC (L 7 2) (k % 9)))))) Y (d) (x) (l12 L (adC (L 7 1) (k / 9)) (adC (L 7 2) (k % 9))) 99 (by exact hL9) (by exact hS9) (by exact hYp) (by omega) (by omega) _) q338 q340 qs6 q52 q341 ⟨rfl, hd_ct_isBy⟩ ⟨Nat.le_of_ble_eq_true rfl, Nat.le_of_ble_eq_true rfl⟩ rfl rfl rfl rfl hl.1 rfl (lv_room (Nat.le_of_ble_eq_true rfl)) dX0_peaceBy_152 ⟨by first | exact Nat.le_refl _ | decide, by first | exact Nat.le_refl _ | decide⟩) (fun r Z152 H locs hp I => ?_)
                obtain ⟨rfl, hq152⟩ := hp
                refine z_eq (tgt := 163) F dX0_peaceBy_155 (by decide) (fun c_155 => ?_) (fun c_155 => ?_)
                · refine lv_iload F.x F.b dX0_peaceBy_163 (lv_at hl 5 rfl) ?_
                  refine W.val (y := eN (pcC L d x (k + 1))) (by rw [pcC, if_neg (by simp [c_155])]) ?_
                  refine lv_istore (lv' := [(5, .int (eN (pcC L d x (k + 1)))), (0, .ref (o)), (1, .int (nI (d))), (2, .int (nI (x))), (3, .int (nI (L 7 1))), (4, .int (nI (L 7 2))), (6, .int (nI (k))), (7, .int (nI ((k / 9)))), (8, .int (nI ((k % 9)))), (9, .int (nI ((mm + mn))))]) F.x F.b dX0_peaceBy_165 hl (by decide) rfl (fun ls hl => ?_)
                  exact J167 0 _ _ _ ⟨Z152, pcC L d x (k + 1), by first | exact (h7.st _ _).keep hq152 | exact h7, by first | rfl | (subst hm1; subst hm2; rw [pcC, if_neg (by omega)]), I, lv_sub hl [1, 2, 3, 4, 5, 0, 6] rfl⟩
                · refine lv_iload F.x F.b dX0_peaceBy_158 (lv_at hl 9 rfl) ?_
                  refine lv_goto (tgt := 165) F.x F.b dX0_peaceBy_160 (by decide) ?_
                  refine W.val (y := eN (pcC L d x (k + 1))) (by subst hm1; subst hm2; rw [pcC, if_pos ⟨hlt, c_155⟩, eN_i (by omega)]) ?_
                  refine lv_istore (lv' := [(5, .int (eN (pcC L d x (k + 1)))), (0, .ref (o)), (1, .int (nI (d))), (2, .int (nI (x))), (3, .int (nI (L 7 1))), (4, .int (nI (L 7 2))), (6, .int (nI (k))), (7, .int (nI ((k / 9)))), (8, .int (nI ((k % 9)))), (9, .int (nI ((mm + mn))))]) F.x F.b dX0_peaceBy_165 hl (by decide) rfl (fun ls hl => ?_)
                  exact J167 0 _ _ _ ⟨Z152, pcC L d x (k + 1), by first | exact (h7.st _ _).keep hq152 | exact h7, by first | rfl | (subst hm1; subst hm2; rw [pcC, if_neg (by omega)]), I, lv_sub hl [1, 2, 3, 4, 5, 0, 6] rfl⟩
              · refine lv_iload F.x F.b dX0_peaceBy_136 (lv_at hl 4 rfl) ?_
                refine lv_iconst (v := nI (1)) F.x F.b dX0_peaceBy_138 (by decide) ?_
                refine lv_iload F.x F.b dX0_peaceBy_139 (lv_at hl 8 rfl) ?_
                refine lv_ishl (x := 1) (y := (nI ((k % 9)))) F.x F.b dX0_peaceBy_141 ?_
                refine lv_ior (x := (nI (L 7 2))) (y := (1 <<< ((nI ((k % 9))) &&& 31))) F.x F.b dX0_peaceBy_142 ?_
                refine lv_goto (tgt := 148) F.x F.b dX0_peaceBy_143 (by decide) ?_
                refine W.val (y := nI (adC (L 7 2) (k % 9))) (by exact ad_raw (L 7 2) (by omega) (k % 9) (by omega)) ?_
                refine c_st F I 2 (by decide) (show 2 < 3 by omega) dX0_peaceBy_148 (fun H locs (I : Iw G A s (cW G o q (S1.1, va_up (va_up S1.2 2 (upd (S1.2 2) (1) (nI (adC (L 7 1) (k / 9))))) 2 (upd (upd (S1.2 2) (1) (nI (adC (L 7 1) (k / 9)))) (2) (nI (adC (L 7 2) (k % 9))))) Y) H locs) => ?_)
                have hS9 := h7.ld (a := adC (L 7 1) (k / 9)) (b := adC (L 7 2) (k % 9)) hS
                have hL9 := hL.l12 (adC_le (L 7 1) (by omega) (k / 9) (by omega)) (adC_le (L 7 2) (by omega) (k % 9) (by omega))
                refine lv_aload_n F.x F.b dX0_peaceBy_149 rfl (lv_at hl 0 rfl) ?_
                refine lv_iload_n F.x F.b dX0_peaceBy_150 rfl (lv_at hl 1 rfl) ?_
                refine lv_iload_n F.x F.b dX0_peaceBy_151 rfl (lv_at hl 2 rfl) ?_
                refine g_calli I (g_runV (n := 2) (ci := 1) (q0 := 0) (As := [.int (nI (d)), .int (nI (x))]) (rest := []) F I (ct_isBy l G o q ((S1.1, va_up (va_up S1.2 2 (upd (S1.2 2) (1) (nI (adC (L 7 1) (k / 9))))) 2 (upd (upd (S1.2 2) (1) (nI (adC (L 7 1) (k / 9)))) (2) (nI (adC (L 7 2) (k % 9)))))) Y (d) (x) (l12 L (adC (L 7 1) (k / 9)) (adC (L 7 2) (k % 9))) 99 (by exact hL9) (by exact hS9) (by exact hYp) (by omega) (by omega) _) q338 q340 qs6 q52 q341 ⟨rfl, hd_ct_isBy⟩ ⟨Nat.le_of_ble_eq_true rfl, Nat.le_of_ble_eq_true rfl⟩ rfl rfl rfl rfl hl.1 rfl (lv_room (Nat.le_of_ble_eq_true rfl)) dX0_peaceBy_152 ⟨by first | exact Nat.le_refl _ | decide, by first | exact Nat.le_refl _ | decide⟩) (fun r Z152 H locs hp I => ?_)
                obtain ⟨rfl, hq152⟩ := hp
                refine z_eq (tgt := 163) F dX0_peaceBy_155 (by decide) (fun c_155 => ?_) (fun c_155 => ?_)
                · refine lv_iload F.x F.b dX0_peaceBy_163 (lv_at hl 5 rfl) ?_
                  refine W.val (y := eN (pcC L d x (k + 1))) (by rw [pcC, if_neg (by simp [c_155])]) ?_
                  refine lv_istore (lv' := [(5, .int (eN (pcC L d x (k + 1)))), (0, .ref (o)), (1, .int (nI (d))), (2, .int (nI (x))), (3, .int (nI (L 7 1))), (4, .int (nI (L 7 2))), (6, .int (nI (k))), (7, .int (nI ((k / 9)))), (8, .int (nI ((k % 9)))), (9, .int (nI ((mm + mn))))]) F.x F.b dX0_peaceBy_165 hl (by decide) rfl (fun ls hl => ?_)
                  exact J167 0 _ _ _ ⟨Z152, pcC L d x (k + 1), by first | exact (h7.st _ _).keep hq152 | exact h7, by first | rfl | (subst hm1; subst hm2; rw [pcC, if_neg (by omega)]), I, lv_sub hl [1, 2, 3, 4, 5, 0, 6] rfl⟩
                · refine lv_iload F.x F.b dX0_peaceBy_158 (lv_at hl 9 rfl) ?_
                  refine lv_goto (tgt := 165) F.x F.b dX0_peaceBy_160 (by decide) ?_
                  refine W.val (y := eN (pcC L d x (k + 1))) (by subst hm1; subst hm2; rw [pcC, if_pos ⟨hlt, c_155⟩, eN_i (by omega)]) ?_
                  refine lv_istore (lv' := [(5, .int (eN (pcC L d x (k + 1)))), (0, .ref (o)), (1, .int (nI (d))), (2, .int (nI (x))), (3, .int (nI (L 7 1))), (4, .int (nI (L 7 2))), (6, .int (nI (k))), (7, .int (nI ((k / 9)))), (8, .int (nI ((k % 9)))), (9, .int (nI ((mm + mn))))]) F.x F.b dX0_peaceBy_165 hl (by decide) rfl (fun ls hl => ?_)
                  exact J167 0 _ _ _ ⟨Z152, pcC L d x (k + 1), by first | exact (h7.st _ _).keep hq152 | exact h7, by first | rfl | (subst hm1; subst hm2; rw [pcC, if_neg (by omega)]), I, lv_sub hl [1, 2, 3, 4, 5, 0, 6] rfl⟩
        · intro _ H locs ls hJ
          obtain ⟨S2, fw, h7, hfw, I, hl⟩ := hJ
          subst hfw
          refine lv_iinc (v := nI ((k + 1))) (lv' := [(6, .int (nI ((k + 1)))), (0, .ref (o)), (1, .int (nI (d))), (2, .int (nI (x))), (3, .int (nI (L 7 1))), (4, .int (nI (L 7 2))), (5, .int (eN (pcC L d x (k + 1))))]) F.x F.b dX0_peaceBy_167 hl (k := 6) rfl (nI_1 (k)) (by decide) rfl (fun ls hl => ?_)
          refine lv_goto (tgt := 22) F.x F.b dX0_peaceBy_170 (by decide) ?_
          exact ih22 _ _ _ _ (by omega) ⟨k + 1, S2, rfl, by omega, by exact h7, I, lv_sub hl [1, 2, 3, 4, 5, 6, 0] rfl⟩

theorem hd_ct_peace : yX0_peace.cls ≠ "java/lang/invoke/MethodHandle" ∧ yX0_peace.cls ≠ "java/lang/invoke/VarHandle" ∧ (parseMethodDescriptor yX0_peace.desc).map (fun d => d.parameters.length) = some 2 := by decide +kernel
set_option maxHeartbeats 4000000 in
theorem ct_peace (l : Launch) (G : gG) (o : Nat) (q : Nat → Nat) (S : MS) (Y : va_W)  (x : Int32) (v : Int32) (L : LD) (hL : LOk L) (hS : cLs S L) (hYp : cYp G o q Y L 99) : gMi l yX0_peace cX0_peace 3 (some .int) ({ frames := 8, cells := 0, slots := 0, locals := 186 } : Room) G [.ref o, .int (x), .int (v)] (cW G o q S Y) (fun S' => cW G o q S' Y) (fun ρ S' => aPeaceC L x v = ρ ∧ cKeep S S') := by
  refine gMi_of (by decide) (Nat.le_of_ble_eq_true rfl) ?_
  intro p e s m below meth c ls A F I hl
  have hl : lv_has ls 3 [(0, .ref (o)), (1, .int (x)), (2, .int (v))] := hl
  have hL5 := hL.1
  have hS0 := hS
  obtain ⟨el, hYl, hYr⟩ := id hYp
  refine lv_iload_n F.x F.b dX0_peace_0 rfl (lv_at hl 1 rfl) ?_
  refine g_calli I (g_runS (n := 1) (As := [.int (x)]) (rest := []) F I (ct_isDay l G _ (x)   _) q247 q248 q52 q249 hd_ct_isDay ⟨Nat.le_of_ble_eq_true rfl, Nat.le_of_ble_eq_true rfl⟩ rfl rfl hl.1 rfl (lv_room (Nat.le_of_ble_eq_true rfl)) dX0_peace_1 ⟨by first | exact Nat.le_refl _ | decide, by first | exact Nat.le_refl _ | decide⟩) (fun r u_ H locs hp I => ?_)
  obtain rfl := hp
  refine z_eq (tgt := 14) F dX0_peace_4 (by decide) (fun c_4 => ?_) (fun c_4 => ?_)
  · refine lv_bipush (v := (-2)) F.x F.b dX0_peace_14 (by decide) ?_
    exact g_iret (u := S) F I (by exact ⟨by simp_all [aPeaceC], cKeep.rf⟩) dX0_peace_16 (by first | exact Nat.le_refl _ | decide) (by first | exact Nat.le_refl _ | decide)
  · obtain ⟨j, hj, rfl⟩ := wi_n (m := 7) (by decide) c_4
    have tj : (nI j).toNatClampNeg = j := nI_clamp (by omega)
    refine lv_iload_n F.x F.b dX0_peace_7 rfl (lv_at hl 2 rfl) ?_
    refine g_calli I (g_runS (n := 1) (As := [.int (v)]) (rest := []) F I (ct_isDay l G _ (v)   _) q247 q248 q52 q249 hd_ct_isDay ⟨Nat.le_of_ble_eq_true rfl, Nat.le_of_ble_eq_true rfl⟩ rfl rfl hl.1 rfl (lv_room (Nat.le_of_ble_eq_true rfl)) dX0_peace_8 ⟨by first | exact Nat.le_refl _ | decide, by first | exact Nat.le_refl _ | decide⟩) (fun r u_ H locs hp I => ?_)
    obtain rfl := hp
    refine z_ne (tgt := 17) F dX0_peace_11 (by decide) (fun c_11 => ?_) (fun c_11 => ?_)
    · obtain ⟨i, hi, rfl⟩ := wi_n (m := 7) (by decide) c_11
      have ti : (nI i).toNatClampNeg = i := nI_clamp (by omega)
      refine lv_aload_n F.x F.b dX0_peace_17 rfl (lv_at hl 0 rfl) ?_
      refine g_calli I (g_runV (n := 0) (ci := 1) (q0 := 0) (As := []) (rest := []) F I (ct_noLand l G o q (S) Y  L 99 (by exact hL) (by exact hS) (by exact hYp) _) q252 q254 qs1 q52 q255 ⟨rfl, hd_ct_noLand⟩ ⟨Nat.le_of_ble_eq_true rfl, Nat.le_of_ble_eq_true rfl⟩ rfl rfl rfl rfl hl.1 rfl (lv_room (Nat.le_of_ble_eq_true rfl)) dX0_peace_18 ⟨by first | exact Nat.le_refl _ | decide, by first | exact Nat.le_refl _ | decide⟩) (fun r u_ H locs hp I => ?_)
      obtain ⟨rfl, rfl⟩ := hp
      refine z_eq (tgt := 29) F dX0_peace_21 (by decide) (fun c_21 => ?_) (fun c_21 => ?_)
      · refine lv_aload_n F.x F.b dX0_peace_29 rfl (lv_at hl 0 rfl) ?_
        refine lv_iload_n F.x F.b dX0_peace_30 rfl (lv_at hl 1 rfl) ?_
        refine lv_iload_n F.x F.b dX0_peace_31 rfl (lv_at hl 2 rfl) ?_
        refine g_calli I (g_runV (n := 2) (ci := 1) (q0 := 0) (As := [.int (nI (j)), .int (nI (i))]) (rest := []) F I (ct_peaceBy l G o q (S) Y (j) (i) L (by exact hL) (by exact hS) (by exact hYp) (by omega) (by omega) _) q358 q360 qs8 q52 q361 ⟨rfl, hd_ct_peaceBy⟩ ⟨Nat.le_of_ble_eq_true rfl, Nat.le_of_ble_eq_true rfl⟩ rfl rfl rfl rfl hl.1 rfl (lv_room (Nat.le_of_ble_eq_true rfl)) dX0_peace_32 ⟨by first | exact Nat.le_refl _ | decide, by first | exact Nat.le_refl _ | decide⟩) (fun r Z32 H locs hp I => ?_)
        obtain ⟨rfl, hq32⟩ := hp
        exact g_iret (u := Z32) F I (by exact ⟨by simp_all [aPeaceC], hq32⟩) dX0_peace_35 (by first | exact Nat.le_refl _ | decide) (by first | exact Nat.le_refl _ | decide)
      · refine lv_bipush (v := (-3)) F.x F.b dX0_peace_24 (by decide) ?_
        refine lv_goto (tgt := 35) F.x F.b dX0_peace_26 (by decide) ?_
        exact g_iret (u := S) F I (by exact ⟨by simp_all [aPeaceC], cKeep.rf⟩) dX0_peace_35 (by first | exact Nat.le_refl _ | decide) (by first | exact Nat.le_refl _ | decide)
    · refine lv_bipush (v := (-2)) F.x F.b dX0_peace_14 (by decide) ?_
      exact g_iret (u := S) F I (by exact ⟨by simp_all [aPeaceC], cKeep.rf⟩) dX0_peace_16 (by first | exact Nat.le_refl _ | decide) (by first | exact Nat.le_refl _ | decide)
