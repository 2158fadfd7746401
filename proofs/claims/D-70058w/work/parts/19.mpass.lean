/-! THE REFERENCE: a pass out of signs -/
set_option maxRecDepth 100000
def up5 (f : Nat → Int32) (i : Nat) (a0 a1 a2 a3 a4 : Int32) : Nat → Int32 := upd (upd (upd (upd (upd f i a0) (i + 1) a1) (i + 2) a2) (i + 3) a3) (i + 4) a4
theorem up5_v {f : Nat → Int32} {i : Nat} {a0 a1 a2 a3 a4 : Int32} : up5 f i a0 a1 a2 a3 a4 i = a0 ∧ up5 f i a0 a1 a2 a3 a4 (i + 1) = a1 ∧ up5 f i a0 a1 a2 a3 a4 (i + 2) = a2 ∧ up5 f i a0 a1 a2 a3 a4 (i + 3) = a3 ∧ up5 f i a0 a1 a2 a3 a4 (i + 4) = a4 := by
  unfold up5 upd
  refine ⟨?_, ?_, ?_, ?_, ?_⟩ <;> simp
theorem up5_n {f : Nat → Int32} {i j : Nat} {a0 a1 a2 a3 a4 : Int32} (h : j < i) : up5 f i a0 a1 a2 a3 a4 j = f j := by
  unfold up5 upd
  rw [if_neg (by omega), if_neg (by omega), if_neg (by omega), if_neg (by omega), if_neg (by omega)]
theorem p1_no {f : Nat → Int32} {p : Nat} (h1 : ¬ f (22 + 6 * p) = 112) (h2 : ¬ f (22 + 6 * p) = 115) (h3 : ¬ f (22 + 6 * p) = 116) : chk f (22 + 6 * p) = false := by rw [chk_p1]; simp [h1, h2, h3]
theorem p1_yes {f : Nat → Int32} {p : Nat} (h : f (22 + 6 * p) = 112 ∨ f (22 + 6 * p) = 115 ∨ f (22 + 6 * p) = 116) : chk f (22 + 6 * p) = true := by rw [chk_p1]; rcases h with h | h | h <;> simp [h]
theorem kd_0 {f : Nat → Int32} {t : Nat} (h : f t = 112) : kdv f t = 0 := by unfold kdv; rw [if_pos h]
theorem kd_1 {f : Nat → Int32} {t : Nat} (h : f t = 115) : kdv f t = 1 := by unfold kdv; rw [if_neg (by rw [h]; decide), if_pos h]
theorem kd_2 {f : Nat → Int32} {t : Nat} (h : f t = 116) : kdv f t = 2 := by unfold kdv; rw [if_neg (by rw [h]; decide), if_neg (by rw [h]; decide)]
theorem n48_ne {x : Int32} {a b : Nat} (hx : x = nI (48 + b)) (h : ¬ x - 48 = nI a) : ¬ a = b := by
  rintro rfl
  exact h (by rw [hx, show (48 : Int32) = nI 48 from rfl, pk_sub (by omega), show 48 + a - 48 = a by omega])
theorem n48_eq {x : Int32} {a : Nat} (h : x - 48 = nI a) : x = nI (48 + a) := by
  have : x = nI a + 48 := by rw [← h]; simp
  rw [this, show (48 : Int32) = nI 48 from rfl, nI_add, Nat.add_comm]

theorem hd_mt_readPass : yX1_readPass.cls = RX1 ∧ yX1_readPass.cls ≠ "java/lang/invoke/MethodHandle" ∧ yX1_readPass.cls ≠ "java/lang/invoke/VarHandle" ∧ (parseMethodDescriptor yX1_readPass.desc).map (fun d => d.parameters.length) = some 1 := by decide +kernel
set_option maxHeartbeats 4000000 in
theorem mt_readPass (l : Launch) (G : gG) (o : Nat) (q : Nat → Nat) (S : MS) (en : Nat) (b pp n : Nat) (hen : en = b + n) (hbn : b + n ≤ 240) (hat : S.1 14 = nI (b + (22 + 6 * pp))) (hrm : S.1 15 = nI pp) (hp : pp < 6) : gMi l yX1_readPass cX1_readPass 4 (some .boolean) ({ frames := 2, cells := 0, slots := 0, locals := 45 } : Room) G [.ref o, .int (nI (en))] (mW G o q S) (fun S' => mW G o q S') (fun ρ S' => ((∀ x, (22 + 6 * pp) ≤ x → x < (22 + 6 * pp) + 5 → stp (fT S b) n x) ∧ bI true = ρ ∧ S'.1 14 = nI (b + (27 + 6 * pp)) ∧ S'.1 15 = nI (pp + 1) ∧ S'.2 16 = S.2 16 ∧ S'.2 17 = S.2 17 ∧ S'.2 18 = up5 (S.2 18) (5 * pp) (nI (kdv (fT S b) (22 + 6 * pp))) (nI (dv (fT S b) (23 + 6 * pp))) (nI (dv (fT S b) (24 + 6 * pp))) (nI (dv (fT S b) (25 + 6 * pp))) (nI (dv (fT S b) (26 + 6 * pp))) ∧ kdv (fT S b) (22 + 6 * pp) ≤ 2 ∧ dv (fT S b) (23 + 6 * pp) ≤ 2 ∧ dv (fT S b) (24 + 6 * pp) ≤ 2 ∧ 1 ≤ dv (fT S b) (25 + 6 * pp) ∧ dv (fT S b) (25 + 6 * pp) ≤ 3 ∧ dv (fT S b) (26 + 6 * pp) ≤ 9 ∧ mKeep S S') ∨ (∃ u, u < 5 ∧ (∀ x, (22 + 6 * pp) ≤ x → x < (22 + 6 * pp) + u → stp (fT S b) n x) ∧ ¬ stp (fT S b) n ((22 + 6 * pp) + u) ∧ bI false = ρ ∧ S'.1 14 = nI (b + ((22 + 6 * pp) + u)) ∧ mKeep S S')) := by
  refine gMi_of (by decide) (Nat.le_of_ble_eq_true rfl) ?_
  intro p e s m below meth c ls A F I hl
  have hl : lv_has ls 4 [(0, .ref (o)), (1, .int (nI (en)))] := hl
  refine lv_iconst (v := nI (5)) F.x F.b dX1_readPass_0 (by decide) ?_
  refine lv_aload_n F.x F.b dX1_readPass_1 rfl (lv_at hl 0 rfl) ?_
  refine m_get (v := (S.1 15)) F I 15 (by decide) rfl q1170 dX1_readPass_2 ?_
  refine W.val (y := nI (pp)) (by exact hrm) ?_
  refine n_imul F dX1_readPass_5 ?_
  refine lv_istore_n (lv' := [(2, .int (nI ((5 * pp)))), (0, .ref (o)), (1, .int (nI (en)))]) F.x F.b dX1_readPass_6 rfl hl (by decide) rfl (fun ls hl => ?_)
  refine lv_aload_n F.x F.b dX1_readPass_7 rfl (lv_at hl 1 rfl) ?_
  refine m_get (v := (S.1 14)) F I 14 (by decide) rfl q1169 dX1_readPass_8 ?_
  refine W.val (y := nI (b + (22 + 6 * pp))) (by exact hat) ?_
  refine lv_iload_n F.x F.b dX1_readPass_11 rfl (lv_at hl 2 rfl) ?_
  refine n_icmp_ge (tgt := 27) F (by omega) (by omega) dX1_readPass_12 (by decide) (fun c_12 => ?_) (fun c_12 => ?_)
  · refine lv_iconst (v := nI (0)) F.x F.b dX1_readPass_27 (by decide) ?_
    refine lv_istore_n (lv' := [(3, .int (nI (0))), (2, .int (nI ((5 * pp)))), (0, .ref (o)), (1, .int (nI (en)))]) F.x F.b dX1_readPass_28 rfl hl (by decide) rfl (fun ls hl => ?_)
    refine lv_aload_n F.x F.b dX1_readPass_29 rfl (lv_at hl 2 rfl) ?_
    refine m_geta F I 18 (by decide) q1173 dX1_readPass_30 ?_
    refine lv_iload_n F.x F.b dX1_readPass_33 rfl (lv_at hl 1 rfl) ?_
    refine lv_iload_n F.x F.b dX1_readPass_34 rfl (lv_at hl 0 rfl) ?_
    refine lv_bipush (v := nI (112)) F.x F.b dX1_readPass_35 (by decide) ?_
    refine n_icmp_ne (tgt := 44) F (by omega) (by omega) dX1_readPass_37 (by decide) (fun c_37 => ?_) (fun c_37 => absurd c_37 (by decide))
    refine lv_iload_n F.x F.b dX1_readPass_44 rfl (lv_at hl 0 rfl) ?_
    refine lv_bipush (v := nI (115)) F.x F.b dX1_readPass_45 (by decide) ?_
    refine n_icmp_ne (tgt := 54) F (by omega) (by omega) dX1_readPass_47 (by decide) (fun c_47 => ?_) (fun c_47 => absurd c_47 (by decide))
    refine lv_iload_n F.x F.b dX1_readPass_54 rfl (lv_at hl 0 rfl) ?_
    refine lv_bipush (v := nI (116)) F.x F.b dX1_readPass_55 (by decide) ?_
    refine n_icmp_ne (tgt := 64) F (by omega) (by omega) dX1_readPass_57 (by decide) (fun c_57 => ?_) (fun c_57 => absurd c_57 (by decide))
    refine lv_bipush (v := (-9)) F.x F.b dX1_readPass_64 (by decide) ?_
    refine m_st F I 18 (by decide) (show (5 * pp) < 30 by omega) dX1_readPass_66 (fun H locs (I : Iw G A s (mW G o q (S.1, va_up S.2 18 (upd (S.2 18) ((5 * pp)) ((-9))))) H locs) => ?_)
    refine lv_aload_n F.x F.b dX1_readPass_67 rfl (lv_at hl 2 rfl) ?_
    refine m_geta F I 18 (by decide) q1173 dX1_readPass_68 ?_
    refine lv_iload_n F.x F.b dX1_readPass_71 rfl (lv_at hl 1 rfl) ?_
    refine m_ld (v := (-9)) F I 18 (by decide) (show (5 * pp) < 30 by omega) (by exact pk_us) dX1_readPass_72 ?_
    refine lv_bipush (v := (-9)) F.x F.b dX1_readPass_73 (by decide) ?_
    refine lv_icmp_ne (x := (-9)) (y := (-9)) (tgt := 80) F.x F.b dX1_readPass_75 (by decide) (fun c_75 => absurd c_75 (by exact fun z9 => z9 rfl)) (fun c_75 => ?_)
    refine lv_iconst (v := nI (0)) F.x F.b dX1_readPass_78 (by decide) ?_
    exact g_zret (u := (S.1, va_up S.2 18 (upd (S.2 18) ((5 * pp)) ((-9))))) F I (by first | exact bI_01 _ | exact Or.inl rfl | exact Or.inr rfl) (by exact Or.inr ⟨0, by omega, fun x h1 h2 => by omega, fun z9 => by have := z9.1; omega, rfl, hat, by exact ⟨rfl, rfl, rfl, rfl, rfl, rfl, rfl, rfl, rfl, rfl, rfl, rfl, rfl, rfl, rfl, rfl, rfl⟩⟩) dX1_readPass_79 (by first | exact Nat.le_refl _ | decide) (by first | exact Nat.le_refl _ | decide)
  · refine lv_aload_n F.x F.b dX1_readPass_15 rfl (lv_at hl 1 rfl) ?_
    refine m_geta F I 4 (by decide) q1159 dX1_readPass_16 ?_
    refine lv_aload_n F.x F.b dX1_readPass_19 rfl (lv_at hl 1 rfl) ?_
    refine m_get (v := (S.1 14)) F I 14 (by decide) rfl q1169 dX1_readPass_20 ?_
    refine W.val (y := nI (b + (22 + 6 * pp))) (by exact hat) ?_
    refine m_ld (v := ((S.2 4) (b + (22 + 6 * pp)))) F I 4 (by decide) (show b + (22 + 6 * pp) < 240 by omega) rfl dX1_readPass_23 ?_
    refine lv_goto (tgt := 28) F.x F.b dX1_readPass_24 (by decide) ?_
    refine lv_istore_n (lv' := [(3, .int (((S.2 4) (b + (22 + 6 * pp))))), (2, .int (nI ((5 * pp)))), (0, .ref (o)), (1, .int (nI (en)))]) F.x F.b dX1_readPass_28 rfl hl (by decide) rfl (fun ls hl => ?_)
    refine lv_aload_n F.x F.b dX1_readPass_29 rfl (lv_at hl 2 rfl) ?_
    refine m_geta F I 18 (by decide) q1173 dX1_readPass_30 ?_
    refine lv_iload_n F.x F.b dX1_readPass_33 rfl (lv_at hl 1 rfl) ?_
    refine lv_iload_n F.x F.b dX1_readPass_34 rfl (lv_at hl 0 rfl) ?_
    refine lv_bipush (v := nI (112)) F.x F.b dX1_readPass_35 (by decide) ?_
    refine lv_icmp_ne (x := ((S.2 4) (b + (22 + 6 * pp)))) (y := 112) (tgt := 44) F.x F.b dX1_readPass_37 (by decide) (fun c_37 => ?_) (fun c_37 => ?_)
    · refine lv_iload_n F.x F.b dX1_readPass_44 rfl (lv_at hl 0 rfl) ?_
      refine lv_bipush (v := nI (115)) F.x F.b dX1_readPass_45 (by decide) ?_
      refine lv_icmp_ne (x := ((S.2 4) (b + (22 + 6 * pp)))) (y := 115) (tgt := 54) F.x F.b dX1_readPass_47 (by decide) (fun c_47 => ?_) (fun c_47 => ?_)
      · refine lv_iload_n F.x F.b dX1_readPass_54 rfl (lv_at hl 0 rfl) ?_
        refine lv_bipush (v := nI (116)) F.x F.b dX1_readPass_55 (by decide) ?_
        refine lv_icmp_ne (x := ((S.2 4) (b + (22 + 6 * pp)))) (y := 116) (tgt := 64) F.x F.b dX1_readPass_57 (by decide) (fun c_57 => ?_) (fun c_57 => ?_)
        · refine lv_bipush (v := (-9)) F.x F.b dX1_readPass_64 (by decide) ?_
          refine m_st F I 18 (by decide) (show (5 * pp) < 30 by omega) dX1_readPass_66 (fun H locs (I : Iw G A s (mW G o q (S.1, va_up S.2 18 (upd (S.2 18) ((5 * pp)) ((-9))))) H locs) => ?_)
          refine lv_aload_n F.x F.b dX1_readPass_67 rfl (lv_at hl 2 rfl) ?_
          refine m_geta F I 18 (by decide) q1173 dX1_readPass_68 ?_
          refine lv_iload_n F.x F.b dX1_readPass_71 rfl (lv_at hl 1 rfl) ?_
          refine m_ld (v := (-9)) F I 18 (by decide) (show (5 * pp) < 30 by omega) (by exact pk_us) dX1_readPass_72 ?_
          refine lv_bipush (v := (-9)) F.x F.b dX1_readPass_73 (by decide) ?_
          refine lv_icmp_ne (x := (-9)) (y := (-9)) (tgt := 80) F.x F.b dX1_readPass_75 (by decide) (fun c_75 => absurd c_75 (by exact fun z9 => z9 rfl)) (fun c_75 => ?_)
          refine lv_iconst (v := nI (0)) F.x F.b dX1_readPass_78 (by decide) ?_
          exact g_zret (u := (S.1, va_up S.2 18 (upd (S.2 18) ((5 * pp)) ((-9))))) F I (by first | exact bI_01 _ | exact Or.inl rfl | exact Or.inr rfl) (by exact Or.inr ⟨0, by omega, fun x h1 h2 => by omega, fun z9 => by have h9 := z9.2.2; rw [Nat.add_zero, p1_no c_37 c_47 c_57] at h9; exact absurd h9 (by decide), rfl, hat, by exact ⟨rfl, rfl, rfl, rfl, rfl, rfl, rfl, rfl, rfl, rfl, rfl, rfl, rfl, rfl, rfl, rfl, rfl⟩⟩) dX1_readPass_79 (by first | exact Nat.le_refl _ | decide) (by first | exact Nat.le_refl _ | decide)
        · refine lv_iconst (v := nI (2)) F.x F.b dX1_readPass_60 (by decide) ?_
          refine lv_goto (tgt := 66) F.x F.b dX1_readPass_61 (by decide) ?_
          refine m_st F I 18 (by decide) (show (5 * pp) < 30 by omega) dX1_readPass_66 (fun H locs (I : Iw G A s (mW G o q (S.1, va_up S.2 18 (upd (S.2 18) ((5 * pp)) (nI (2))))) H locs) => ?_)
          refine lv_aload_n F.x F.b dX1_readPass_67 rfl (lv_at hl 2 rfl) ?_
          refine m_geta F I 18 (by decide) q1173 dX1_readPass_68 ?_
          refine lv_iload_n F.x F.b dX1_readPass_71 rfl (lv_at hl 1 rfl) ?_
          refine m_ld (v := nI (2)) F I 18 (by decide) (show (5 * pp) < 30 by omega) (by exact pk_us) dX1_readPass_72 ?_
          refine lv_bipush (v := (-9)) F.x F.b dX1_readPass_73 (by decide) ?_
          refine lv_icmp_ne (x := 2) (y := (-9)) (tgt := 80) F.x F.b dX1_readPass_75 (by decide) (fun c_75 => ?_) (fun c_75 => absurd c_75 (by first | decide | exact nI_n9 _ (by omega)))
          have st0 : stp (fT S b) n (22 + 6 * pp) := ⟨by omega, by omega, p1_yes (Or.inr (Or.inr c_57))⟩
          have hkd : kdv (fT S b) (22 + 6 * pp) = 2 := kd_2 c_57
          refine lv_aload_n F.x F.b dX1_readPass_80 rfl (lv_at hl 2 rfl) ?_
          refine lv_dup F.x F.b dX1_readPass_81 rfl ?_
          refine m_get (v := (S.1 14)) F I 14 (by decide) rfl q1169 dX1_readPass_82 ?_
          refine W.val (y := nI (b + (22 + 6 * pp))) (by exact hat) ?_
          refine lv_iconst (v := nI (1)) F.x F.b dX1_readPass_85 (by decide) ?_
          refine n_iadd F dX1_readPass_86 ?_
          refine W.val (y := nI (b + (23 + 6 * pp))) (by exact congrArg nI (by omega)) ?_
          refine m_put F I 14 (by decide) q1169 dX1_readPass_87 (fun H locs (I : Iw G A s (mW G o q (va_up S.1 14 ((nI (b + (23 + 6 * pp)))), va_up S.2 18 (upd (S.2 18) ((5 * pp)) (nI (2))))) H locs) => ?_)
          refine lv_aload_n F.x F.b dX1_readPass_90 rfl (lv_at hl 2 rfl) ?_
          refine m_geta F I 18 (by decide) q1173 dX1_readPass_91 ?_
          refine lv_iload_n F.x F.b dX1_readPass_94 rfl (lv_at hl 1 rfl) ?_
          refine lv_iconst (v := nI (1)) F.x F.b dX1_readPass_95 (by decide) ?_
          refine n_iadd F dX1_readPass_96 ?_
          refine lv_aload_n F.x F.b dX1_readPass_97 rfl (lv_at hl 2 rfl) ?_
          refine lv_iload_n F.x F.b dX1_readPass_98 rfl (lv_at hl 3 rfl) ?_
          refine lv_iconst (v := nI (0)) F.x F.b dX1_readPass_99 (by decide) ?_
          refine lv_iconst (v := nI (2)) F.x F.b dX1_readPass_100 (by decide) ?_
          refine g_calli I (g_runV (n := 3) (ci := 0) (q0 := 0) (As := [.int (nI (en)), .int (nI (0)), .int (nI (2))]) (rest := [.int (nI (((5 * pp) + 1))), .ref (q 18)]) F I (mt_digit l G o q ((va_up S.1 14 ((nI (b + (23 + 6 * pp)))), va_up S.2 18 (upd (S.2 18) ((5 * pp)) (nI (2))))) (en) (0) (2) b (23 + 6 * pp) n (by omega) (by omega) (by first | exact hat | exact congrArg nI (by omega)) (by omega) (by omega) (by omega) _) q1272 q1274 qs30 q56 q1275 hd_mt_digit ⟨Nat.le_of_ble_eq_true rfl, Nat.le_of_ble_eq_true rfl⟩ rfl rfl rfl rfl hl.1 rfl (lv_room (Nat.le_of_ble_eq_true rfl)) dX1_readPass_101 ⟨by first | exact Nat.le_refl _ | decide, by first | exact Nat.le_refl _ | decide⟩) (fun r Z101 H locs hp I => ?_)
          rcases hp with ⟨y101, hl101, hh101, hn101, hw101, he101, rfl, rfl⟩ | ⟨hw101, rfl, rfl⟩
          · skip
            refine m_st F I 18 (by decide) (show ((5 * pp) + 1) < 30 by omega) dX1_readPass_104 (fun H locs (I : Iw G A s (mW G o q (va_up (va_up S.1 14 ((nI (b + (23 + 6 * pp))))) 14 (nI (b + ((23 + 6 * pp) + 1))), va_up (va_up S.2 18 (upd (S.2 18) ((5 * pp)) (nI (2)))) 18 (upd (upd (S.2 18) ((5 * pp)) (nI (2))) (((5 * pp) + 1)) (nI (y101))))) H locs) => ?_)
            refine lv_aload_n F.x F.b dX1_readPass_105 rfl (lv_at hl 2 rfl) ?_
            refine m_geta F I 18 (by decide) q1173 dX1_readPass_106 ?_
            refine lv_iload_n F.x F.b dX1_readPass_109 rfl (lv_at hl 1 rfl) ?_
            refine lv_iconst (v := nI (1)) F.x F.b dX1_readPass_110 (by decide) ?_
            refine n_iadd F dX1_readPass_111 ?_
            refine m_ld (v := nI (y101)) F I 18 (by decide) (show ((5 * pp) + 1) < 30 by omega) (by exact pk_us) dX1_readPass_112 ?_
            have st1 : stp (fT S b) n (23 + 6 * pp) := ⟨hn101, by omega, by rw [chk_p2]; exact hw101⟩
            refine lv_bipush (v := (-9)) F.x F.b dX1_readPass_113 (by decide) ?_
            refine lv_icmp_eq (x := (nI (y101))) (y := (-9)) (tgt := 149) F.x F.b dX1_readPass_115 (by decide) (fun c_115 => absurd c_115 (by exact nI_n9 _ (by omega))) (fun c_115 => ?_)
            refine lv_aload_n F.x F.b dX1_readPass_118 rfl (lv_at hl 2 rfl) ?_
            refine m_get (v := nI (b + ((23 + 6 * pp) + 1))) F I 14 (by decide) rfl q1169 dX1_readPass_119 ?_
            refine W.val (y := nI (b + (24 + 6 * pp))) (by exact congrArg nI (by omega)) ?_
            refine lv_iload_n F.x F.b dX1_readPass_122 rfl (lv_at hl 3 rfl) ?_
            refine n_icmp_ge (tgt := 151) F (by omega) (by omega) dX1_readPass_123 (by decide) (fun c_123 => ?_) (fun c_123 => ?_)
            · refine lv_aload_n F.x F.b dX1_readPass_151 rfl (lv_at hl 2 rfl) ?_
              refine m_geta F I 18 (by decide) q1173 dX1_readPass_152 ?_
              refine lv_iload_n F.x F.b dX1_readPass_155 rfl (lv_at hl 1 rfl) ?_
              refine lv_iconst (v := nI (2)) F.x F.b dX1_readPass_156 (by decide) ?_
              refine n_iadd F dX1_readPass_157 ?_
              refine lv_aload_n F.x F.b dX1_readPass_158 rfl (lv_at hl 2 rfl) ?_
              refine lv_iload_n F.x F.b dX1_readPass_159 rfl (lv_at hl 3 rfl) ?_
              refine lv_iconst (v := nI (0)) F.x F.b dX1_readPass_160 (by decide) ?_
              refine lv_iconst (v := nI (2)) F.x F.b dX1_readPass_161 (by decide) ?_
              refine g_calli I (g_runV (n := 3) (ci := 0) (q0 := 0) (As := [.int (nI (en)), .int (nI (0)), .int (nI (2))]) (rest := [.int (nI (((5 * pp) + 2))), .ref (q 18)]) F I (mt_digit l G o q ((va_up (va_up S.1 14 ((nI (b + (23 + 6 * pp))))) 14 (nI (b + ((23 + 6 * pp) + 1))), va_up (va_up S.2 18 (upd (S.2 18) ((5 * pp)) (nI (2)))) 18 (upd (upd (S.2 18) ((5 * pp)) (nI (2))) (((5 * pp) + 1)) (nI (y101))))) (en) (0) (2) b (24 + 6 * pp) n (by omega) (by omega) (by first | exact hat | exact congrArg nI (by omega)) (by omega) (by omega) (by omega) _) q1272 q1274 qs30 q56 q1275 hd_mt_digit ⟨Nat.le_of_ble_eq_true rfl, Nat.le_of_ble_eq_true rfl⟩ rfl rfl rfl rfl hl.1 rfl (lv_room (Nat.le_of_ble_eq_true rfl)) dX1_readPass_162 ⟨by first | exact Nat.le_refl _ | decide, by first | exact Nat.le_refl _ | decide⟩) (fun r Z162 H locs hp I => ?_)
              rcases hp with ⟨y162, hl162, hh162, hn162, hw162, he162, rfl, rfl⟩ | ⟨hw162, rfl, rfl⟩
              · skip
                refine m_st F I 18 (by decide) (show ((5 * pp) + 2) < 30 by omega) dX1_readPass_165 (fun H locs (I : Iw G A s (mW G o q (va_up (va_up (va_up S.1 14 ((nI (b + (23 + 6 * pp))))) 14 (nI (b + ((23 + 6 * pp) + 1)))) 14 (nI (b + ((24 + 6 * pp) + 1))), va_up (va_up (va_up S.2 18 (upd (S.2 18) ((5 * pp)) (nI (2)))) 18 (upd (upd (S.2 18) ((5 * pp)) (nI (2))) (((5 * pp) + 1)) (nI (y101)))) 18 (upd (upd (upd (S.2 18) ((5 * pp)) (nI (2))) (((5 * pp) + 1)) (nI (y101))) (((5 * pp) + 2)) (nI (y162))))) H locs) => ?_)
                refine lv_aload_n F.x F.b dX1_readPass_166 rfl (lv_at hl 2 rfl) ?_
                refine m_geta F I 18 (by decide) q1173 dX1_readPass_167 ?_
                refine lv_iload_n F.x F.b dX1_readPass_170 rfl (lv_at hl 1 rfl) ?_
                refine lv_iconst (v := nI (2)) F.x F.b dX1_readPass_171 (by decide) ?_
                refine n_iadd F dX1_readPass_172 ?_
                refine m_ld (v := nI (y162)) F I 18 (by decide) (show ((5 * pp) + 2) < 30 by omega) (by exact pk_us) dX1_readPass_173 ?_
                have st2 : stp (fT S b) n (24 + 6 * pp) := ⟨hn162, by omega, by rw [chk_p3, Bool.and_eq_true]; refine ⟨hw162, ?_⟩; rw [Bool.not_eq_true', decide_eq_false_iff_not]; intro z9; omega⟩
                refine lv_bipush (v := (-9)) F.x F.b dX1_readPass_174 (by decide) ?_
                refine lv_icmp_ne (x := (nI (y162))) (y := (-9)) (tgt := 181) F.x F.b dX1_readPass_176 (by decide) (fun c_176 => ?_) (fun c_176 => absurd c_176 (by first | decide | exact nI_n9 _ (by omega)))
                refine lv_aload_n F.x F.b dX1_readPass_181 rfl (lv_at hl 2 rfl) ?_
                refine m_geta F I 18 (by decide) q1173 dX1_readPass_182 ?_
                refine lv_iload_n F.x F.b dX1_readPass_185 rfl (lv_at hl 1 rfl) ?_
                refine lv_iconst (v := nI (3)) F.x F.b dX1_readPass_186 (by decide) ?_
                refine n_iadd F dX1_readPass_187 ?_
                refine lv_aload_n F.x F.b dX1_readPass_188 rfl (lv_at hl 2 rfl) ?_
                refine lv_iload_n F.x F.b dX1_readPass_189 rfl (lv_at hl 3 rfl) ?_
                refine lv_iconst (v := nI (1)) F.x F.b dX1_readPass_190 (by decide) ?_
                refine lv_iconst (v := nI (3)) F.x F.b dX1_readPass_191 (by decide) ?_
                refine g_calli I (g_runV (n := 3) (ci := 0) (q0 := 0) (As := [.int (nI (en)), .int (nI (1)), .int (nI (3))]) (rest := [.int (nI (((5 * pp) + 3))), .ref (q 18)]) F I (mt_digit l G o q ((va_up (va_up (va_up S.1 14 ((nI (b + (23 + 6 * pp))))) 14 (nI (b + ((23 + 6 * pp) + 1)))) 14 (nI (b + ((24 + 6 * pp) + 1))), va_up (va_up (va_up S.2 18 (upd (S.2 18) ((5 * pp)) (nI (2)))) 18 (upd (upd (S.2 18) ((5 * pp)) (nI (2))) (((5 * pp) + 1)) (nI (y101)))) 18 (upd (upd (upd (S.2 18) ((5 * pp)) (nI (2))) (((5 * pp) + 1)) (nI (y101))) (((5 * pp) + 2)) (nI (y162))))) (en) (1) (3) b (25 + 6 * pp) n (by omega) (by omega) (by first | exact hat | exact congrArg nI (by omega)) (by omega) (by omega) (by omega) _) q1272 q1274 qs30 q56 q1275 hd_mt_digit ⟨Nat.le_of_ble_eq_true rfl, Nat.le_of_ble_eq_true rfl⟩ rfl rfl rfl rfl hl.1 rfl (lv_room (Nat.le_of_ble_eq_true rfl)) dX1_readPass_192 ⟨by first | exact Nat.le_refl _ | decide, by first | exact Nat.le_refl _ | decide⟩) (fun r Z192 H locs hp I => ?_)
                rcases hp with ⟨y192, hl192, hh192, hn192, hw192, he192, rfl, rfl⟩ | ⟨hw192, rfl, rfl⟩
                · skip
                  refine m_st F I 18 (by decide) (show ((5 * pp) + 3) < 30 by omega) dX1_readPass_195 (fun H locs (I : Iw G A s (mW G o q (va_up (va_up (va_up (va_up S.1 14 ((nI (b + (23 + 6 * pp))))) 14 (nI (b + ((23 + 6 * pp) + 1)))) 14 (nI (b + ((24 + 6 * pp) + 1)))) 14 (nI (b + ((25 + 6 * pp) + 1))), va_up (va_up (va_up (va_up S.2 18 (upd (S.2 18) ((5 * pp)) (nI (2)))) 18 (upd (upd (S.2 18) ((5 * pp)) (nI (2))) (((5 * pp) + 1)) (nI (y101)))) 18 (upd (upd (upd (S.2 18) ((5 * pp)) (nI (2))) (((5 * pp) + 1)) (nI (y101))) (((5 * pp) + 2)) (nI (y162)))) 18 (upd (upd (upd (upd (S.2 18) ((5 * pp)) (nI (2))) (((5 * pp) + 1)) (nI (y101))) (((5 * pp) + 2)) (nI (y162))) (((5 * pp) + 3)) (nI (y192))))) H locs) => ?_)
                  refine lv_aload_n F.x F.b dX1_readPass_196 rfl (lv_at hl 2 rfl) ?_
                  refine m_geta F I 18 (by decide) q1173 dX1_readPass_197 ?_
                  refine lv_iload_n F.x F.b dX1_readPass_200 rfl (lv_at hl 1 rfl) ?_
                  refine lv_iconst (v := nI (3)) F.x F.b dX1_readPass_201 (by decide) ?_
                  refine n_iadd F dX1_readPass_202 ?_
                  refine m_ld (v := nI (y192)) F I 18 (by decide) (show ((5 * pp) + 3) < 30 by omega) (by exact pk_us) dX1_readPass_203 ?_
                  have st3 : stp (fT S b) n (25 + 6 * pp) := ⟨hn192, by omega, by rw [chk_p4]; exact hw192⟩
                  refine lv_bipush (v := (-9)) F.x F.b dX1_readPass_204 (by decide) ?_
                  refine lv_icmp_ne (x := (nI (y192))) (y := (-9)) (tgt := 211) F.x F.b dX1_readPass_206 (by decide) (fun c_206 => ?_) (fun c_206 => absurd c_206 (by first | decide | exact nI_n9 _ (by omega)))
                  refine lv_aload_n F.x F.b dX1_readPass_211 rfl (lv_at hl 2 rfl) ?_
                  refine m_geta F I 18 (by decide) q1173 dX1_readPass_212 ?_
                  refine lv_iload_n F.x F.b dX1_readPass_215 rfl (lv_at hl 1 rfl) ?_
                  refine lv_iconst (v := nI (4)) F.x F.b dX1_readPass_216 (by decide) ?_
                  refine n_iadd F dX1_readPass_217 ?_
                  refine lv_aload_n F.x F.b dX1_readPass_218 rfl (lv_at hl 2 rfl) ?_
                  refine lv_iload_n F.x F.b dX1_readPass_219 rfl (lv_at hl 3 rfl) ?_
                  refine lv_iconst (v := nI (0)) F.x F.b dX1_readPass_220 (by decide) ?_
                  refine lv_bipush (v := nI (9)) F.x F.b dX1_readPass_221 (by decide) ?_
                  refine g_calli I (g_runV (n := 3) (ci := 0) (q0 := 0) (As := [.int (nI (en)), .int (nI (0)), .int (nI (9))]) (rest := [.int (nI (((5 * pp) + 4))), .ref (q 18)]) F I (mt_digit l G o q ((va_up (va_up (va_up (va_up S.1 14 ((nI (b + (23 + 6 * pp))))) 14 (nI (b + ((23 + 6 * pp) + 1)))) 14 (nI (b + ((24 + 6 * pp) + 1)))) 14 (nI (b + ((25 + 6 * pp) + 1))), va_up (va_up (va_up (va_up S.2 18 (upd (S.2 18) ((5 * pp)) (nI (2)))) 18 (upd (upd (S.2 18) ((5 * pp)) (nI (2))) (((5 * pp) + 1)) (nI (y101)))) 18 (upd (upd (upd (S.2 18) ((5 * pp)) (nI (2))) (((5 * pp) + 1)) (nI (y101))) (((5 * pp) + 2)) (nI (y162)))) 18 (upd (upd (upd (upd (S.2 18) ((5 * pp)) (nI (2))) (((5 * pp) + 1)) (nI (y101))) (((5 * pp) + 2)) (nI (y162))) (((5 * pp) + 3)) (nI (y192))))) (en) (0) (9) b (26 + 6 * pp) n (by omega) (by omega) (by first | exact hat | exact congrArg nI (by omega)) (by omega) (by omega) (by omega) _) q1272 q1274 qs30 q56 q1275 hd_mt_digit ⟨Nat.le_of_ble_eq_true rfl, Nat.le_of_ble_eq_true rfl⟩ rfl rfl rfl rfl hl.1 rfl (lv_room (Nat.le_of_ble_eq_true rfl)) dX1_readPass_223 ⟨by first | exact Nat.le_refl _ | decide, by first | exact Nat.le_refl _ | decide⟩) (fun r Z223 H locs hp I => ?_)
                  rcases hp with ⟨y223, hl223, hh223, hn223, hw223, he223, rfl, rfl⟩ | ⟨hw223, rfl, rfl⟩
                  · skip
                    refine m_st F I 18 (by decide) (show ((5 * pp) + 4) < 30 by omega) dX1_readPass_226 (fun H locs (I : Iw G A s (mW G o q (va_up (va_up (va_up (va_up (va_up S.1 14 ((nI (b + (23 + 6 * pp))))) 14 (nI (b + ((23 + 6 * pp) + 1)))) 14 (nI (b + ((24 + 6 * pp) + 1)))) 14 (nI (b + ((25 + 6 * pp) + 1)))) 14 (nI (b + ((26 + 6 * pp) + 1))), va_up (va_up (va_up (va_up (va_up S.2 18 (upd (S.2 18) ((5 * pp)) (nI (2)))) 18 (upd (upd (S.2 18) ((5 * pp)) (nI (2))) (((5 * pp) + 1)) (nI (y101)))) 18 (upd (upd (upd (S.2 18) ((5 * pp)) (nI (2))) (((5 * pp) + 1)) (nI (y101))) (((5 * pp) + 2)) (nI (y162)))) 18 (upd (upd (upd (upd (S.2 18) ((5 * pp)) (nI (2))) (((5 * pp) + 1)) (nI (y101))) (((5 * pp) + 2)) (nI (y162))) (((5 * pp) + 3)) (nI (y192)))) 18 (upd (upd (upd (upd (upd (S.2 18) ((5 * pp)) (nI (2))) (((5 * pp) + 1)) (nI (y101))) (((5 * pp) + 2)) (nI (y162))) (((5 * pp) + 3)) (nI (y192))) (((5 * pp) + 4)) (nI (y223))))) H locs) => ?_)
                    refine lv_aload_n F.x F.b dX1_readPass_227 rfl (lv_at hl 2 rfl) ?_
                    refine lv_dup F.x F.b dX1_readPass_228 rfl ?_
                    refine m_get (v := (S.1 15)) F I 15 (by decide) rfl q1170 dX1_readPass_229 ?_
                    refine W.val (y := nI (pp)) (by exact hrm) ?_
                    refine lv_iconst (v := nI (1)) F.x F.b dX1_readPass_232 (by decide) ?_
                    refine n_iadd F dX1_readPass_233 ?_
                    refine W.val (y := nI ((pp + 1))) (by rfl) ?_
                    refine m_put F I 15 (by decide) q1170 dX1_readPass_234 (fun H locs (I : Iw G A s (mW G o q (va_up (va_up (va_up (va_up (va_up (va_up S.1 14 ((nI (b + (23 + 6 * pp))))) 14 (nI (b + ((23 + 6 * pp) + 1)))) 14 (nI (b + ((24 + 6 * pp) + 1)))) 14 (nI (b + ((25 + 6 * pp) + 1)))) 14 (nI (b + ((26 + 6 * pp) + 1)))) 15 ((nI ((pp + 1)))), va_up (va_up (va_up (va_up (va_up S.2 18 (upd (S.2 18) ((5 * pp)) (nI (2)))) 18 (upd (upd (S.2 18) ((5 * pp)) (nI (2))) (((5 * pp) + 1)) (nI (y101)))) 18 (upd (upd (upd (S.2 18) ((5 * pp)) (nI (2))) (((5 * pp) + 1)) (nI (y101))) (((5 * pp) + 2)) (nI (y162)))) 18 (upd (upd (upd (upd (S.2 18) ((5 * pp)) (nI (2))) (((5 * pp) + 1)) (nI (y101))) (((5 * pp) + 2)) (nI (y162))) (((5 * pp) + 3)) (nI (y192)))) 18 (upd (upd (upd (upd (upd (S.2 18) ((5 * pp)) (nI (2))) (((5 * pp) + 1)) (nI (y101))) (((5 * pp) + 2)) (nI (y162))) (((5 * pp) + 3)) (nI (y192))) (((5 * pp) + 4)) (nI (y223))))) H locs) => ?_)
                    refine lv_aload_n F.x F.b dX1_readPass_237 rfl (lv_at hl 2 rfl) ?_
                    refine m_geta F I 18 (by decide) q1173 dX1_readPass_238 ?_
                    refine lv_iload_n F.x F.b dX1_readPass_241 rfl (lv_at hl 1 rfl) ?_
                    refine lv_iconst (v := nI (4)) F.x F.b dX1_readPass_242 (by decide) ?_
                    refine n_iadd F dX1_readPass_243 ?_
                    refine m_ld (v := nI (y223)) F I 18 (by decide) (show ((5 * pp) + 4) < 30 by omega) (by exact pk_us) dX1_readPass_244 ?_
                    have st4 : stp (fT S b) n (26 + 6 * pp) := ⟨hn223, by omega, by rw [chk_p5]; exact hw223⟩
                    refine lv_bipush (v := (-9)) F.x F.b dX1_readPass_245 (by decide) ?_
                    refine lv_icmp_eq (x := (nI (y223))) (y := (-9)) (tgt := 254) F.x F.b dX1_readPass_247 (by decide) (fun c_247 => absurd c_247 (by exact nI_n9 _ (by omega))) (fun c_247 => ?_)
                    refine lv_iconst (v := nI (1)) F.x F.b dX1_readPass_250 (by decide) ?_
                    refine lv_goto (tgt := 255) F.x F.b dX1_readPass_251 (by decide) ?_
                    exact g_zret (u := (va_up (va_up (va_up (va_up (va_up (va_up S.1 14 ((nI (b + (23 + 6 * pp))))) 14 (nI (b + ((23 + 6 * pp) + 1)))) 14 (nI (b + ((24 + 6 * pp) + 1)))) 14 (nI (b + ((25 + 6 * pp) + 1)))) 14 (nI (b + ((26 + 6 * pp) + 1)))) 15 ((nI ((pp + 1)))), va_up (va_up (va_up (va_up (va_up S.2 18 (upd (S.2 18) ((5 * pp)) (nI (2)))) 18 (upd (upd (S.2 18) ((5 * pp)) (nI (2))) (((5 * pp) + 1)) (nI (y101)))) 18 (upd (upd (upd (S.2 18) ((5 * pp)) (nI (2))) (((5 * pp) + 1)) (nI (y101))) (((5 * pp) + 2)) (nI (y162)))) 18 (upd (upd (upd (upd (S.2 18) ((5 * pp)) (nI (2))) (((5 * pp) + 1)) (nI (y101))) (((5 * pp) + 2)) (nI (y162))) (((5 * pp) + 3)) (nI (y192)))) 18 (upd (upd (upd (upd (upd (S.2 18) ((5 * pp)) (nI (2))) (((5 * pp) + 1)) (nI (y101))) (((5 * pp) + 2)) (nI (y162))) (((5 * pp) + 3)) (nI (y192))) (((5 * pp) + 4)) (nI (y223))))) F I (by first | exact bI_01 _ | exact Or.inl rfl | exact Or.inr rfl) (by exact Or.inl ⟨fun x h1 h2 => by rcases (show x = 22 + 6 * pp ∨ x = 23 + 6 * pp ∨ x = 24 + 6 * pp ∨ x = 25 + 6 * pp ∨ x = 26 + 6 * pp by omega) with rfl | rfl | rfl | rfl | rfl <;> assumption, rfl, congrArg nI (by omega), rfl, rfl, rfl, by rw [hkd, dv_y (f := fT S b) he101 (by omega), dv_y (f := fT S b) he162 (by omega), dv_y (f := fT S b) he192 (by omega), dv_y (f := fT S b) he223 (by omega)]; rfl, by rw [hkd]; decide, by rw [dv_y (f := fT S b) he101 (by omega)]; omega, by rw [dv_y (f := fT S b) he162 (by omega)]; omega, by rw [dv_y (f := fT S b) he192 (by omega)]; omega, by rw [dv_y (f := fT S b) he192 (by omega)]; omega, by rw [dv_y (f := fT S b) he223 (by omega)]; omega, by exact ⟨rfl, rfl, rfl, rfl, rfl, rfl, rfl, rfl, rfl, rfl, rfl, rfl, rfl, rfl, rfl, rfl, rfl⟩⟩) dX1_readPass_255 (by first | exact Nat.le_refl _ | decide) (by first | exact Nat.le_refl _ | decide)
                  · skip
                    refine m_st F I 18 (by decide) (show ((5 * pp) + 4) < 30 by omega) dX1_readPass_226 (fun H locs (I : Iw G A s (mW G o q (va_up (va_up (va_up (va_up S.1 14 ((nI (b + (23 + 6 * pp))))) 14 (nI (b + ((23 + 6 * pp) + 1)))) 14 (nI (b + ((24 + 6 * pp) + 1)))) 14 (nI (b + ((25 + 6 * pp) + 1))), va_up (va_up (va_up (va_up (va_up S.2 18 (upd (S.2 18) ((5 * pp)) (nI (2)))) 18 (upd (upd (S.2 18) ((5 * pp)) (nI (2))) (((5 * pp) + 1)) (nI (y101)))) 18 (upd (upd (upd (S.2 18) ((5 * pp)) (nI (2))) (((5 * pp) + 1)) (nI (y101))) (((5 * pp) + 2)) (nI (y162)))) 18 (upd (upd (upd (upd (S.2 18) ((5 * pp)) (nI (2))) (((5 * pp) + 1)) (nI (y101))) (((5 * pp) + 2)) (nI (y162))) (((5 * pp) + 3)) (nI (y192)))) 18 (upd (upd (upd (upd (upd (S.2 18) ((5 * pp)) (nI (2))) (((5 * pp) + 1)) (nI (y101))) (((5 * pp) + 2)) (nI (y162))) (((5 * pp) + 3)) (nI (y192))) (((5 * pp) + 4)) ((-9))))) H locs) => ?_)
                    refine lv_aload_n F.x F.b dX1_readPass_227 rfl (lv_at hl 2 rfl) ?_
                    refine lv_dup F.x F.b dX1_readPass_228 rfl ?_
                    refine m_get (v := (S.1 15)) F I 15 (by decide) rfl q1170 dX1_readPass_229 ?_
                    refine W.val (y := nI (pp)) (by exact hrm) ?_
                    refine lv_iconst (v := nI (1)) F.x F.b dX1_readPass_232 (by decide) ?_
                    refine n_iadd F dX1_readPass_233 ?_
                    refine W.val (y := nI ((pp + 1))) (by rfl) ?_
                    refine m_put F I 15 (by decide) q1170 dX1_readPass_234 (fun H locs (I : Iw G A s (mW G o q (va_up (va_up (va_up (va_up (va_up S.1 14 ((nI (b + (23 + 6 * pp))))) 14 (nI (b + ((23 + 6 * pp) + 1)))) 14 (nI (b + ((24 + 6 * pp) + 1)))) 14 (nI (b + ((25 + 6 * pp) + 1)))) 15 ((nI ((pp + 1)))), va_up (va_up (va_up (va_up (va_up S.2 18 (upd (S.2 18) ((5 * pp)) (nI (2)))) 18 (upd (upd (S.2 18) ((5 * pp)) (nI (2))) (((5 * pp) + 1)) (nI (y101)))) 18 (upd (upd (upd (S.2 18) ((5 * pp)) (nI (2))) (((5 * pp) + 1)) (nI (y101))) (((5 * pp) + 2)) (nI (y162)))) 18 (upd (upd (upd (upd (S.2 18) ((5 * pp)) (nI (2))) (((5 * pp) + 1)) (nI (y101))) (((5 * pp) + 2)) (nI (y162))) (((5 * pp) + 3)) (nI (y192)))) 18 (upd (upd (upd (upd (upd (S.2 18) ((5 * pp)) (nI (2))) (((5 * pp) + 1)) (nI (y101))) (((5 * pp) + 2)) (nI (y162))) (((5 * pp) + 3)) (nI (y192))) (((5 * pp) + 4)) ((-9))))) H locs) => ?_)
                    refine lv_aload_n F.x F.b dX1_readPass_237 rfl (lv_at hl 2 rfl) ?_
                    refine m_geta F I 18 (by decide) q1173 dX1_readPass_238 ?_
                    refine lv_iload_n F.x F.b dX1_readPass_241 rfl (lv_at hl 1 rfl) ?_
                    refine lv_iconst (v := nI (4)) F.x F.b dX1_readPass_242 (by decide) ?_
                    refine n_iadd F dX1_readPass_243 ?_
                    refine m_ld (v := (-9)) F I 18 (by decide) (show ((5 * pp) + 4) < 30 by omega) (by exact pk_us) dX1_readPass_244 ?_
                    refine lv_bipush (v := (-9)) F.x F.b dX1_readPass_245 (by decide) ?_
                    refine lv_icmp_eq (x := (-9)) (y := (-9)) (tgt := 254) F.x F.b dX1_readPass_247 (by decide) (fun c_247 => ?_) (fun c_247 => absurd c_247 (by exact fun z9 => z9 rfl))
                    refine lv_iconst (v := nI (0)) F.x F.b dX1_readPass_254 (by decide) ?_
                    exact g_zret (u := (va_up (va_up (va_up (va_up (va_up S.1 14 ((nI (b + (23 + 6 * pp))))) 14 (nI (b + ((23 + 6 * pp) + 1)))) 14 (nI (b + ((24 + 6 * pp) + 1)))) 14 (nI (b + ((25 + 6 * pp) + 1)))) 15 ((nI ((pp + 1)))), va_up (va_up (va_up (va_up (va_up S.2 18 (upd (S.2 18) ((5 * pp)) (nI (2)))) 18 (upd (upd (S.2 18) ((5 * pp)) (nI (2))) (((5 * pp) + 1)) (nI (y101)))) 18 (upd (upd (upd (S.2 18) ((5 * pp)) (nI (2))) (((5 * pp) + 1)) (nI (y101))) (((5 * pp) + 2)) (nI (y162)))) 18 (upd (upd (upd (upd (S.2 18) ((5 * pp)) (nI (2))) (((5 * pp) + 1)) (nI (y101))) (((5 * pp) + 2)) (nI (y162))) (((5 * pp) + 3)) (nI (y192)))) 18 (upd (upd (upd (upd (upd (S.2 18) ((5 * pp)) (nI (2))) (((5 * pp) + 1)) (nI (y101))) (((5 * pp) + 2)) (nI (y162))) (((5 * pp) + 3)) (nI (y192))) (((5 * pp) + 4)) ((-9))))) F I (by first | exact bI_01 _ | exact Or.inl rfl | exact Or.inr rfl) (by exact Or.inr ⟨4, by omega, fun x h1 h2 => by rcases (show x = 22 + 6 * pp ∨ x = 23 + 6 * pp ∨ x = 24 + 6 * pp ∨ x = 25 + 6 * pp by omega) with rfl | rfl | rfl | rfl <;> assumption, fun z9 => by have h9 := z9.2.2; rw [show 22 + 6 * pp + 4 = 26 + 6 * pp by omega, chk_p5] at h9; exact hw223 ⟨by have := z9.1; omega, h9⟩, rfl, congrArg nI (by omega), by exact ⟨rfl, rfl, rfl, rfl, rfl, rfl, rfl, rfl, rfl, rfl, rfl, rfl, rfl, rfl, rfl, rfl, rfl⟩⟩) dX1_readPass_255 (by first | exact Nat.le_refl _ | decide) (by first | exact Nat.le_refl _ | decide)
                · skip
                  refine m_st F I 18 (by decide) (show ((5 * pp) + 3) < 30 by omega) dX1_readPass_195 (fun H locs (I : Iw G A s (mW G o q (va_up (va_up (va_up S.1 14 ((nI (b + (23 + 6 * pp))))) 14 (nI (b + ((23 + 6 * pp) + 1)))) 14 (nI (b + ((24 + 6 * pp) + 1))), va_up (va_up (va_up (va_up S.2 18 (upd (S.2 18) ((5 * pp)) (nI (2)))) 18 (upd (upd (S.2 18) ((5 * pp)) (nI (2))) (((5 * pp) + 1)) (nI (y101)))) 18 (upd (upd (upd (S.2 18) ((5 * pp)) (nI (2))) (((5 * pp) + 1)) (nI (y101))) (((5 * pp) + 2)) (nI (y162)))) 18 (upd (upd (upd (upd (S.2 18) ((5 * pp)) (nI (2))) (((5 * pp) + 1)) (nI (y101))) (((5 * pp) + 2)) (nI (y162))) (((5 * pp) + 3)) ((-9))))) H locs) => ?_)
                  refine lv_aload_n F.x F.b dX1_readPass_196 rfl (lv_at hl 2 rfl) ?_
                  refine m_geta F I 18 (by decide) q1173 dX1_readPass_197 ?_
                  refine lv_iload_n F.x F.b dX1_readPass_200 rfl (lv_at hl 1 rfl) ?_
                  refine lv_iconst (v := nI (3)) F.x F.b dX1_readPass_201 (by decide) ?_
                  refine n_iadd F dX1_readPass_202 ?_
                  refine m_ld (v := (-9)) F I 18 (by decide) (show ((5 * pp) + 3) < 30 by omega) (by exact pk_us) dX1_readPass_203 ?_
                  refine lv_bipush (v := (-9)) F.x F.b dX1_readPass_204 (by decide) ?_
                  refine lv_icmp_ne (x := (-9)) (y := (-9)) (tgt := 211) F.x F.b dX1_readPass_206 (by decide) (fun c_206 => absurd c_206 (by exact fun z9 => z9 rfl)) (fun c_206 => ?_)
                  refine lv_iconst (v := nI (0)) F.x F.b dX1_readPass_209 (by decide) ?_
                  exact g_zret (u := (va_up (va_up (va_up S.1 14 ((nI (b + (23 + 6 * pp))))) 14 (nI (b + ((23 + 6 * pp) + 1)))) 14 (nI (b + ((24 + 6 * pp) + 1))), va_up (va_up (va_up (va_up S.2 18 (upd (S.2 18) ((5 * pp)) (nI (2)))) 18 (upd (upd (S.2 18) ((5 * pp)) (nI (2))) (((5 * pp) + 1)) (nI (y101)))) 18 (upd (upd (upd (S.2 18) ((5 * pp)) (nI (2))) (((5 * pp) + 1)) (nI (y101))) (((5 * pp) + 2)) (nI (y162)))) 18 (upd (upd (upd (upd (S.2 18) ((5 * pp)) (nI (2))) (((5 * pp) + 1)) (nI (y101))) (((5 * pp) + 2)) (nI (y162))) (((5 * pp) + 3)) ((-9))))) F I (by first | exact bI_01 _ | exact Or.inl rfl | exact Or.inr rfl) (by exact Or.inr ⟨3, by omega, fun x h1 h2 => by rcases (show x = 22 + 6 * pp ∨ x = 23 + 6 * pp ∨ x = 24 + 6 * pp by omega) with rfl | rfl | rfl <;> assumption, fun z9 => by have h9 := z9.2.2; rw [show 22 + 6 * pp + 3 = 25 + 6 * pp by omega, chk_p4] at h9; exact hw192 ⟨by have := z9.1; omega, h9⟩, rfl, congrArg nI (by omega), by exact ⟨rfl, rfl, rfl, rfl, rfl, rfl, rfl, rfl, rfl, rfl, rfl, rfl, rfl, rfl, rfl, rfl, rfl⟩⟩) dX1_readPass_210 (by first | exact Nat.le_refl _ | decide) (by first | exact Nat.le_refl _ | decide)
              · skip
                refine m_st F I 18 (by decide) (show ((5 * pp) + 2) < 30 by omega) dX1_readPass_165 (fun H locs (I : Iw G A s (mW G o q (va_up (va_up S.1 14 ((nI (b + (23 + 6 * pp))))) 14 (nI (b + ((23 + 6 * pp) + 1))), va_up (va_up (va_up S.2 18 (upd (S.2 18) ((5 * pp)) (nI (2)))) 18 (upd (upd (S.2 18) ((5 * pp)) (nI (2))) (((5 * pp) + 1)) (nI (y101)))) 18 (upd (upd (upd (S.2 18) ((5 * pp)) (nI (2))) (((5 * pp) + 1)) (nI (y101))) (((5 * pp) + 2)) ((-9))))) H locs) => ?_)
                refine lv_aload_n F.x F.b dX1_readPass_166 rfl (lv_at hl 2 rfl) ?_
                refine m_geta F I 18 (by decide) q1173 dX1_readPass_167 ?_
                refine lv_iload_n F.x F.b dX1_readPass_170 rfl (lv_at hl 1 rfl) ?_
                refine lv_iconst (v := nI (2)) F.x F.b dX1_readPass_171 (by decide) ?_
                refine n_iadd F dX1_readPass_172 ?_
                refine m_ld (v := (-9)) F I 18 (by decide) (show ((5 * pp) + 2) < 30 by omega) (by exact pk_us) dX1_readPass_173 ?_
                refine lv_bipush (v := (-9)) F.x F.b dX1_readPass_174 (by decide) ?_
                refine lv_icmp_ne (x := (-9)) (y := (-9)) (tgt := 181) F.x F.b dX1_readPass_176 (by decide) (fun c_176 => absurd c_176 (by exact fun z9 => z9 rfl)) (fun c_176 => ?_)
                refine lv_iconst (v := nI (0)) F.x F.b dX1_readPass_179 (by decide) ?_
                exact g_zret (u := (va_up (va_up S.1 14 ((nI (b + (23 + 6 * pp))))) 14 (nI (b + ((23 + 6 * pp) + 1))), va_up (va_up (va_up S.2 18 (upd (S.2 18) ((5 * pp)) (nI (2)))) 18 (upd (upd (S.2 18) ((5 * pp)) (nI (2))) (((5 * pp) + 1)) (nI (y101)))) 18 (upd (upd (upd (S.2 18) ((5 * pp)) (nI (2))) (((5 * pp) + 1)) (nI (y101))) (((5 * pp) + 2)) ((-9))))) F I (by first | exact bI_01 _ | exact Or.inl rfl | exact Or.inr rfl) (by exact Or.inr ⟨2, by omega, fun x h1 h2 => by rcases (show x = 22 + 6 * pp ∨ x = 23 + 6 * pp by omega) with rfl | rfl <;> assumption, fun z9 => by have h9 := z9.2.2; rw [show 22 + 6 * pp + 2 = 24 + 6 * pp by omega, chk_p3] at h9; exact hw162 ⟨by have := z9.1; omega, by rw [Bool.and_eq_true] at h9; exact h9.1⟩, rfl, congrArg nI (by omega), by exact ⟨rfl, rfl, rfl, rfl, rfl, rfl, rfl, rfl, rfl, rfl, rfl, rfl, rfl, rfl, rfl, rfl, rfl⟩⟩) dX1_readPass_180 (by first | exact Nat.le_refl _ | decide) (by first | exact Nat.le_refl _ | decide)
            · refine lv_aload_n F.x F.b dX1_readPass_126 rfl (lv_at hl 2 rfl) ?_
              refine m_geta F I 4 (by decide) q1159 dX1_readPass_127 ?_
              refine lv_aload_n F.x F.b dX1_readPass_130 rfl (lv_at hl 2 rfl) ?_
              refine m_get (v := nI (b + ((23 + 6 * pp) + 1))) F I 14 (by decide) rfl q1169 dX1_readPass_131 ?_
              refine W.val (y := nI (b + (24 + 6 * pp))) (by exact congrArg nI (by omega)) ?_
              refine m_ld (v := ((S.2 4) (b + (24 + 6 * pp)))) F I 4 (by decide) (show b + (24 + 6 * pp) < 240 by omega) rfl dX1_readPass_134 ?_
              refine lv_bipush (v := nI (48)) F.x F.b dX1_readPass_135 (by decide) ?_
              refine lv_isub (x := ((S.2 4) (b + (24 + 6 * pp)))) (y := 48) F.x F.b dX1_readPass_137 ?_
              refine lv_aload_n F.x F.b dX1_readPass_138 rfl (lv_at hl 2 rfl) ?_
              refine m_geta F I 18 (by decide) q1173 dX1_readPass_139 ?_
              refine lv_iload_n F.x F.b dX1_readPass_142 rfl (lv_at hl 1 rfl) ?_
              refine lv_iconst (v := nI (1)) F.x F.b dX1_readPass_143 (by decide) ?_
              refine n_iadd F dX1_readPass_144 ?_
              refine m_ld (v := nI (y101)) F I 18 (by decide) (show ((5 * pp) + 1) < 30 by omega) (by exact pk_us) dX1_readPass_145 ?_
              refine lv_icmp_ne (x := (((S.2 4) (b + (24 + 6 * pp))) - 48)) (y := (nI (y101))) (tgt := 151) F.x F.b dX1_readPass_146 (by decide) (fun c_146 => ?_) (fun c_146 => ?_)
              · refine lv_aload_n F.x F.b dX1_readPass_151 rfl (lv_at hl 2 rfl) ?_
                refine m_geta F I 18 (by decide) q1173 dX1_readPass_152 ?_
                refine lv_iload_n F.x F.b dX1_readPass_155 rfl (lv_at hl 1 rfl) ?_
                refine lv_iconst (v := nI (2)) F.x F.b dX1_readPass_156 (by decide) ?_
                refine n_iadd F dX1_readPass_157 ?_
                refine lv_aload_n F.x F.b dX1_readPass_158 rfl (lv_at hl 2 rfl) ?_
                refine lv_iload_n F.x F.b dX1_readPass_159 rfl (lv_at hl 3 rfl) ?_
                refine lv_iconst (v := nI (0)) F.x F.b dX1_readPass_160 (by decide) ?_
                refine lv_iconst (v := nI (2)) F.x F.b dX1_readPass_161 (by decide) ?_
                refine g_calli I (g_runV (n := 3) (ci := 0) (q0 := 0) (As := [.int (nI (en)), .int (nI (0)), .int (nI (2))]) (rest := [.int (nI (((5 * pp) + 2))), .ref (q 18)]) F I (mt_digit l G o q ((va_up (va_up S.1 14 ((nI (b + (23 + 6 * pp))))) 14 (nI (b + ((23 + 6 * pp) + 1))), va_up (va_up S.2 18 (upd (S.2 18) ((5 * pp)) (nI (2)))) 18 (upd (upd (S.2 18) ((5 * pp)) (nI (2))) (((5 * pp) + 1)) (nI (y101))))) (en) (0) (2) b (24 + 6 * pp) n (by omega) (by omega) (by first | exact hat | exact congrArg nI (by omega)) (by omega) (by omega) (by omega) _) q1272 q1274 qs30 q56 q1275 hd_mt_digit ⟨Nat.le_of_ble_eq_true rfl, Nat.le_of_ble_eq_true rfl⟩ rfl rfl rfl rfl hl.1 rfl (lv_room (Nat.le_of_ble_eq_true rfl)) dX1_readPass_162 ⟨by first | exact Nat.le_refl _ | decide, by first | exact Nat.le_refl _ | decide⟩) (fun r Z162 H locs hp I => ?_)
                rcases hp with ⟨y162, hl162, hh162, hn162, hw162, he162, rfl, rfl⟩ | ⟨hw162, rfl, rfl⟩
                · skip
                  refine m_st F I 18 (by decide) (show ((5 * pp) + 2) < 30 by omega) dX1_readPass_165 (fun H locs (I : Iw G A s (mW G o q (va_up (va_up (va_up S.1 14 ((nI (b + (23 + 6 * pp))))) 14 (nI (b + ((23 + 6 * pp) + 1)))) 14 (nI (b + ((24 + 6 * pp) + 1))), va_up (va_up (va_up S.2 18 (upd (S.2 18) ((5 * pp)) (nI (2)))) 18 (upd (upd (S.2 18) ((5 * pp)) (nI (2))) (((5 * pp) + 1)) (nI (y101)))) 18 (upd (upd (upd (S.2 18) ((5 * pp)) (nI (2))) (((5 * pp) + 1)) (nI (y101))) (((5 * pp) + 2)) (nI (y162))))) H locs) => ?_)
                  refine lv_aload_n F.x F.b dX1_readPass_166 rfl (lv_at hl 2 rfl) ?_
                  refine m_geta F I 18 (by decide) q1173 dX1_readPass_167 ?_
                  refine lv_iload_n F.x F.b dX1_readPass_170 rfl (lv_at hl 1 rfl) ?_
                  refine lv_iconst (v := nI (2)) F.x F.b dX1_readPass_171 (by decide) ?_
                  refine n_iadd F dX1_readPass_172 ?_
                  refine m_ld (v := nI (y162)) F I 18 (by decide) (show ((5 * pp) + 2) < 30 by omega) (by exact pk_us) dX1_readPass_173 ?_
                  have st2 : stp (fT S b) n (24 + 6 * pp) := ⟨hn162, by omega, by rw [chk_p3, Bool.and_eq_true]; refine ⟨hw162, ?_⟩; rw [Bool.not_eq_true', decide_eq_false_iff_not]; intro z9; exact c_146 (by rw [show S.2 4 (b + (24 + 6 * pp)) = nI (48 + y101) from z9.trans he101, show (48 : Int32) = nI 48 from rfl, pk_sub (by omega), show 48 + y101 - 48 = y101 by omega])⟩
                  refine lv_bipush (v := (-9)) F.x F.b dX1_readPass_174 (by decide) ?_
                  refine lv_icmp_ne (x := (nI (y162))) (y := (-9)) (tgt := 181) F.x F.b dX1_readPass_176 (by decide) (fun c_176 => ?_) (fun c_176 => absurd c_176 (by first | decide | exact nI_n9 _ (by omega)))
                  refine lv_aload_n F.x F.b dX1_readPass_181 rfl (lv_at hl 2 rfl) ?_
                  refine m_geta F I 18 (by decide) q1173 dX1_readPass_182 ?_
                  refine lv_iload_n F.x F.b dX1_readPass_185 rfl (lv_at hl 1 rfl) ?_
                  refine lv_iconst (v := nI (3)) F.x F.b dX1_readPass_186 (by decide) ?_
                  refine n_iadd F dX1_readPass_187 ?_
                  refine lv_aload_n F.x F.b dX1_readPass_188 rfl (lv_at hl 2 rfl) ?_
                  refine lv_iload_n F.x F.b dX1_readPass_189 rfl (lv_at hl 3 rfl) ?_
                  refine lv_iconst (v := nI (1)) F.x F.b dX1_readPass_190 (by decide) ?_
                  refine lv_iconst (v := nI (3)) F.x F.b dX1_readPass_191 (by decide) ?_
                  refine g_calli I (g_runV (n := 3) (ci := 0) (q0 := 0) (As := [.int (nI (en)), .int (nI (1)), .int (nI (3))]) (rest := [.int (nI (((5 * pp) + 3))), .ref (q 18)]) F I (mt_digit l G o q ((va_up (va_up (va_up S.1 14 ((nI (b + (23 + 6 * pp))))) 14 (nI (b + ((23 + 6 * pp) + 1)))) 14 (nI (b + ((24 + 6 * pp) + 1))), va_up (va_up (va_up S.2 18 (upd (S.2 18) ((5 * pp)) (nI (2)))) 18 (upd (upd (S.2 18) ((5 * pp)) (nI (2))) (((5 * pp) + 1)) (nI (y101)))) 18 (upd (upd (upd (S.2 18) ((5 * pp)) (nI (2))) (((5 * pp) + 1)) (nI (y101))) (((5 * pp) + 2)) (nI (y162))))) (en) (1) (3) b (25 + 6 * pp) n (by omega) (by omega) (by first | exact hat | exact congrArg nI (by omega)) (by omega) (by omega) (by omega) _) q1272 q1274 qs30 q56 q1275 hd_mt_digit ⟨Nat.le_of_ble_eq_true rfl, Nat.le_of_ble_eq_true rfl⟩ rfl rfl rfl rfl hl.1 rfl (lv_room (Nat.le_of_ble_eq_true rfl)) dX1_readPass_192 ⟨by first | exact Nat.le_refl _ | decide, by first | exact Nat.le_refl _ | decide⟩) (fun r Z192 H locs hp I => ?_)
                  rcases hp with ⟨y192, hl192, hh192, hn192, hw192, he192, rfl, rfl⟩ | ⟨hw192, rfl, rfl⟩
                  · skip
                    refine m_st F I 18 (by decide) (show ((5 * pp) + 3) < 30 by omega) dX1_readPass_195 (fun H locs (I : Iw G A s (mW G o q (va_up (va_up (va_up (va_up S.1 14 ((nI (b + (23 + 6 * pp))))) 14 (nI (b + ((23 + 6 * pp) + 1)))) 14 (nI (b + ((24 + 6 * pp) + 1)))) 14 (nI (b + ((25 + 6 * pp) + 1))), va_up (va_up (va_up (va_up S.2 18 (upd (S.2 18) ((5 * pp)) (nI (2)))) 18 (upd (upd (S.2 18) ((5 * pp)) (nI (2))) (((5 * pp) + 1)) (nI (y101)))) 18 (upd (upd (upd (S.2 18) ((5 * pp)) (nI (2))) (((5 * pp) + 1)) (nI (y101))) (((5 * pp) + 2)) (nI (y162)))) 18 (upd (upd (upd (upd (S.2 18) ((5 * pp)) (nI (2))) (((5 * pp) + 1)) (nI (y101))) (((5 * pp) + 2)) (nI (y162))) (((5 * pp) + 3)) (nI (y192))))) H locs) => ?_)
                    refine lv_aload_n F.x F.b dX1_readPass_196 rfl (lv_at hl 2 rfl) ?_
                    refine m_geta F I 18 (by decide) q1173 dX1_readPass_197 ?_
                    refine lv_iload_n F.x F.b dX1_readPass_200 rfl (lv_at hl 1 rfl) ?_
                    refine lv_iconst (v := nI (3)) F.x F.b dX1_readPass_201 (by decide) ?_
                    refine n_iadd F dX1_readPass_202 ?_
                    refine m_ld (v := nI (y192)) F I 18 (by decide) (show ((5 * pp) + 3) < 30 by omega) (by exact pk_us) dX1_readPass_203 ?_
                    have st3 : stp (fT S b) n (25 + 6 * pp) := ⟨hn192, by omega, by rw [chk_p4]; exact hw192⟩
                    refine lv_bipush (v := (-9)) F.x F.b dX1_readPass_204 (by decide) ?_
                    refine lv_icmp_ne (x := (nI (y192))) (y := (-9)) (tgt := 211) F.x F.b dX1_readPass_206 (by decide) (fun c_206 => ?_) (fun c_206 => absurd c_206 (by first | decide | exact nI_n9 _ (by omega)))
                    refine lv_aload_n F.x F.b dX1_readPass_211 rfl (lv_at hl 2 rfl) ?_
                    refine m_geta F I 18 (by decide) q1173 dX1_readPass_212 ?_
                    refine lv_iload_n F.x F.b dX1_readPass_215 rfl (lv_at hl 1 rfl) ?_
                    refine lv_iconst (v := nI (4)) F.x F.b dX1_readPass_216 (by decide) ?_
                    refine n_iadd F dX1_readPass_217 ?_
                    refine lv_aload_n F.x F.b dX1_readPass_218 rfl (lv_at hl 2 rfl) ?_
                    refine lv_iload_n F.x F.b dX1_readPass_219 rfl (lv_at hl 3 rfl) ?_
                    refine lv_iconst (v := nI (0)) F.x F.b dX1_readPass_220 (by decide) ?_
                    refine lv_bipush (v := nI (9)) F.x F.b dX1_readPass_221 (by decide) ?_
                    refine g_calli I (g_runV (n := 3) (ci := 0) (q0 := 0) (As := [.int (nI (en)), .int (nI (0)), .int (nI (9))]) (rest := [.int (nI (((5 * pp) + 4))), .ref (q 18)]) F I (mt_digit l G o q ((va_up (va_up (va_up (va_up S.1 14 ((nI (b + (23 + 6 * pp))))) 14 (nI (b + ((23 + 6 * pp) + 1)))) 14 (nI (b + ((24 + 6 * pp) + 1)))) 14 (nI (b + ((25 + 6 * pp) + 1))), va_up (va_up (va_up (va_up S.2 18 (upd (S.2 18) ((5 * pp)) (nI (2)))) 18 (upd (upd (S.2 18) ((5 * pp)) (nI (2))) (((5 * pp) + 1)) (nI (y101)))) 18 (upd (upd (upd (S.2 18) ((5 * pp)) (nI (2))) (((5 * pp) + 1)) (nI (y101))) (((5 * pp) + 2)) (nI (y162)))) 18 (upd (upd (upd (upd (S.2 18) ((5 * pp)) (nI (2))) (((5 * pp) + 1)) (nI (y101))) (((5 * pp) + 2)) (nI (y162))) (((5 * pp) + 3)) (nI (y192))))) (en) (0) (9) b (26 + 6 * pp) n (by omega) (by omega) (by first | exact hat | exact congrArg nI (by omega)) (by omega) (by omega) (by omega) _) q1272 q1274 qs30 q56 q1275 hd_mt_digit ⟨Nat.le_of_ble_eq_true rfl, Nat.le_of_ble_eq_true rfl⟩ rfl rfl rfl rfl hl.1 rfl (lv_room (Nat.le_of_ble_eq_true rfl)) dX1_readPass_223 ⟨by first | exact Nat.le_refl _ | decide, by first | exact Nat.le_refl _ | decide⟩) (fun r Z223 H locs hp I => ?_)
                    rcases hp with ⟨y223, hl223, hh223, hn223, hw223, he223, rfl, rfl⟩ | ⟨hw223, rfl, rfl⟩
                    · skip
                      refine m_st F I 18 (by decide) (show ((5 * pp) + 4) < 30 by omega) dX1_readPass_226 (fun H locs (I : Iw G A s (mW G o q (va_up (va_up (va_up (va_up (va_up S.1 14 ((nI (b + (23 + 6 * pp))))) 14 (nI (b + ((23 + 6 * pp) + 1)))) 14 (nI (b + ((24 + 6 * pp) + 1)))) 14 (nI (b + ((25 + 6 * pp) + 1)))) 14 (nI (b + ((26 + 6 * pp) + 1))), va_up (va_up (va_up (va_up (va_up S.2 18 (upd (S.2 18) ((5 * pp)) (nI (2)))) 18 (upd (upd (S.2 18) ((5 * pp)) (nI (2))) (((5 * pp) + 1)) (nI (y101)))) 18 (upd (upd (upd (S.2 18) ((5 * pp)) (nI (2))) (((5 * pp) + 1)) (nI (y101))) (((5 * pp) + 2)) (nI (y162)))) 18 (upd (upd (upd (upd (S.2 18) ((5 * pp)) (nI (2))) (((5 * pp) + 1)) (nI (y101))) (((5 * pp) + 2)) (nI (y162))) (((5 * pp) + 3)) (nI (y192)))) 18 (upd (upd (upd (upd (upd (S.2 18) ((5 * pp)) (nI (2))) (((5 * pp) + 1)) (nI (y101))) (((5 * pp) + 2)) (nI (y162))) (((5 * pp) + 3)) (nI (y192))) (((5 * pp) + 4)) (nI (y223))))) H locs) => ?_)
                      refine lv_aload_n F.x F.b dX1_readPass_227 rfl (lv_at hl 2 rfl) ?_
                      refine lv_dup F.x F.b dX1_readPass_228 rfl ?_
                      refine m_get (v := (S.1 15)) F I 15 (by decide) rfl q1170 dX1_readPass_229 ?_
                      refine W.val (y := nI (pp)) (by exact hrm) ?_
                      refine lv_iconst (v := nI (1)) F.x F.b dX1_readPass_232 (by decide) ?_
                      refine n_iadd F dX1_readPass_233 ?_
                      refine W.val (y := nI ((pp + 1))) (by rfl) ?_
                      refine m_put F I 15 (by decide) q1170 dX1_readPass_234 (fun H locs (I : Iw G A s (mW G o q (va_up (va_up (va_up (va_up (va_up (va_up S.1 14 ((nI (b + (23 + 6 * pp))))) 14 (nI (b + ((23 + 6 * pp) + 1)))) 14 (nI (b + ((24 + 6 * pp) + 1)))) 14 (nI (b + ((25 + 6 * pp) + 1)))) 14 (nI (b + ((26 + 6 * pp) + 1)))) 15 ((nI ((pp + 1)))), va_up (va_up (va_up (va_up (va_up S.2 18 (upd (S.2 18) ((5 * pp)) (nI (2)))) 18 (upd (upd (S.2 18) ((5 * pp)) (nI (2))) (((5 * pp) + 1)) (nI (y101)))) 18 (upd (upd (upd (S.2 18) ((5 * pp)) (nI (2))) (((5 * pp) + 1)) (nI (y101))) (((5 * pp) + 2)) (nI (y162)))) 18 (upd (upd (upd (upd (S.2 18) ((5 * pp)) (nI (2))) (((5 * pp) + 1)) (nI (y101))) (((5 * pp) + 2)) (nI (y162))) (((5 * pp) + 3)) (nI (y192)))) 18 (upd (upd (upd (upd (upd (S.2 18) ((5 * pp)) (nI (2))) (((5 * pp) + 1)) (nI (y101))) (((5 * pp) + 2)) (nI (y162))) (((5 * pp) + 3)) (nI (y192))) (((5 * pp) + 4)) (nI (y223))))) H locs) => ?_)
                      refine lv_aload_n F.x F.b dX1_readPass_237 rfl (lv_at hl 2 rfl) ?_
                      refine m_geta F I 18 (by decide) q1173 dX1_readPass_238 ?_
                      refine lv_iload_n F.x F.b dX1_readPass_241 rfl (lv_at hl 1 rfl) ?_
                      refine lv_iconst (v := nI (4)) F.x F.b dX1_readPass_242 (by decide) ?_
                      refine n_iadd F dX1_readPass_243 ?_
                      refine m_ld (v := nI (y223)) F I 18 (by decide) (show ((5 * pp) + 4) < 30 by omega) (by exact pk_us) dX1_readPass_244 ?_
                      have st4 : stp (fT S b) n (26 + 6 * pp) := ⟨hn223, by omega, by rw [chk_p5]; exact hw223⟩
                      refine lv_bipush (v := (-9)) F.x F.b dX1_readPass_245 (by decide) ?_
                      refine lv_icmp_eq (x := (nI (y223))) (y := (-9)) (tgt := 254) F.x F.b dX1_readPass_247 (by decide) (fun c_247 => absurd c_247 (by exact nI_n9 _ (by omega))) (fun c_247 => ?_)
                      refine lv_iconst (v := nI (1)) F.x F.b dX1_readPass_250 (by decide) ?_
                      refine lv_goto (tgt := 255) F.x F.b dX1_readPass_251 (by decide) ?_
                      exact g_zret (u := (va_up (va_up (va_up (va_up (va_up (va_up S.1 14 ((nI (b + (23 + 6 * pp))))) 14 (nI (b + ((23 + 6 * pp) + 1)))) 14 (nI (b + ((24 + 6 * pp) + 1)))) 14 (nI (b + ((25 + 6 * pp) + 1)))) 14 (nI (b + ((26 + 6 * pp) + 1)))) 15 ((nI ((pp + 1)))), va_up (va_up (va_up (va_up (va_up S.2 18 (upd (S.2 18) ((5 * pp)) (nI (2)))) 18 (upd (upd (S.2 18) ((5 * pp)) (nI (2))) (((5 * pp) + 1)) (nI (y101)))) 18 (upd (upd (upd (S.2 18) ((5 * pp)) (nI (2))) (((5 * pp) + 1)) (nI (y101))) (((5 * pp) + 2)) (nI (y162)))) 18 (upd (upd (upd (upd (S.2 18) ((5 * pp)) (nI (2))) (((5 * pp) + 1)) (nI (y101))) (((5 * pp) + 2)) (nI (y162))) (((5 * pp) + 3)) (nI (y192)))) 18 (upd (upd (upd (upd (upd (S.2 18) ((5 * pp)) (nI (2))) (((5 * pp) + 1)) (nI (y101))) (((5 * pp) + 2)) (nI (y162))) (((5 * pp) + 3)) (nI (y192))) (((5 * pp) + 4)) (nI (y223))))) F I (by first | exact bI_01 _ | exact Or.inl rfl | exact Or.inr rfl) (by exact Or.inl ⟨fun x h1 h2 => by rcases (show x = 22 + 6 * pp ∨ x = 23 + 6 * pp ∨ x = 24 + 6 * pp ∨ x = 25 + 6 * pp ∨ x = 26 + 6 * pp by omega) with rfl | rfl | rfl | rfl | rfl <;> assumption, rfl, congrArg nI (by omega), rfl, rfl, rfl, by rw [hkd, dv_y (f := fT S b) he101 (by omega), dv_y (f := fT S b) he162 (by omega), dv_y (f := fT S b) he192 (by omega), dv_y (f := fT S b) he223 (by omega)]; rfl, by rw [hkd]; decide, by rw [dv_y (f := fT S b) he101 (by omega)]; omega, by rw [dv_y (f := fT S b) he162 (by omega)]; omega, by rw [dv_y (f := fT S b) he192 (by omega)]; omega, by rw [dv_y (f := fT S b) he192 (by omega)]; omega, by rw [dv_y (f := fT S b) he223 (by omega)]; omega, by exact ⟨rfl, rfl, rfl, rfl, rfl, rfl, rfl, rfl, rfl, rfl, rfl, rfl, rfl, rfl, rfl, rfl, rfl⟩⟩) dX1_readPass_255 (by first | exact Nat.le_refl _ | decide) (by first | exact Nat.le_refl _ | decide)
                    · skip
                      refine m_st F I 18 (by decide) (show ((5 * pp) + 4) < 30 by omega) dX1_readPass_226 (fun H locs (I : Iw G A s (mW G o q (va_up (va_up (va_up (va_up S.1 14 ((nI (b + (23 + 6 * pp))))) 14 (nI (b + ((23 + 6 * pp) + 1)))) 14 (nI (b + ((24 + 6 * pp) + 1)))) 14 (nI (b + ((25 + 6 * pp) + 1))), va_up (va_up (va_up (va_up (va_up S.2 18 (upd (S.2 18) ((5 * pp)) (nI (2)))) 18 (upd (upd (S.2 18) ((5 * pp)) (nI (2))) (((5 * pp) + 1)) (nI (y101)))) 18 (upd (upd (upd (S.2 18) ((5 * pp)) (nI (2))) (((5 * pp) + 1)) (nI (y101))) (((5 * pp) + 2)) (nI (y162)))) 18 (upd (upd (upd (upd (S.2 18) ((5 * pp)) (nI (2))) (((5 * pp) + 1)) (nI (y101))) (((5 * pp) + 2)) (nI (y162))) (((5 * pp) + 3)) (nI (y192)))) 18 (upd (upd (upd (upd (upd (S.2 18) ((5 * pp)) (nI (2))) (((5 * pp) + 1)) (nI (y101))) (((5 * pp) + 2)) (nI (y162))) (((5 * pp) + 3)) (nI (y192))) (((5 * pp) + 4)) ((-9))))) H locs) => ?_)
                      refine lv_aload_n F.x F.b dX1_readPass_227 rfl (lv_at hl 2 rfl) ?_
                      refine lv_dup F.x F.b dX1_readPass_228 rfl ?_
                      refine m_get (v := (S.1 15)) F I 15 (by decide) rfl q1170 dX1_readPass_229 ?_
                      refine W.val (y := nI (pp)) (by exact hrm) ?_
                      refine lv_iconst (v := nI (1)) F.x F.b dX1_readPass_232 (by decide) ?_
                      refine n_iadd F dX1_readPass_233 ?_
                      refine W.val (y := nI ((pp + 1))) (by rfl) ?_
                      refine m_put F I 15 (by decide) q1170 dX1_readPass_234 (fun H locs (I : Iw G A s (mW G o q (va_up (va_up (va_up (va_up (va_up S.1 14 ((nI (b + (23 + 6 * pp))))) 14 (nI (b + ((23 + 6 * pp) + 1)))) 14 (nI (b + ((24 + 6 * pp) + 1)))) 14 (nI (b + ((25 + 6 * pp) + 1)))) 15 ((nI ((pp + 1)))), va_up (va_up (va_up (va_up (va_up S.2 18 (upd (S.2 18) ((5 * pp)) (nI (2)))) 18 (upd (upd (S.2 18) ((5 * pp)) (nI (2))) (((5 * pp) + 1)) (nI (y101)))) 18 (upd (upd (upd (S.2 18) ((5 * pp)) (nI (2))) (((5 * pp) + 1)) (nI (y101))) (((5 * pp) + 2)) (nI (y162)))) 18 (upd (upd (upd (upd (S.2 18) ((5 * pp)) (nI (2))) (((5 * pp) + 1)) (nI (y101))) (((5 * pp) + 2)) (nI (y162))) (((5 * pp) + 3)) (nI (y192)))) 18 (upd (upd (upd (upd (upd (S.2 18) ((5 * pp)) (nI (2))) (((5 * pp) + 1)) (nI (y101))) (((5 * pp) + 2)) (nI (y162))) (((5 * pp) + 3)) (nI (y192))) (((5 * pp) + 4)) ((-9))))) H locs) => ?_)
                      refine lv_aload_n F.x F.b dX1_readPass_237 rfl (lv_at hl 2 rfl) ?_
                      refine m_geta F I 18 (by decide) q1173 dX1_readPass_238 ?_
                      refine lv_iload_n F.x F.b dX1_readPass_241 rfl (lv_at hl 1 rfl) ?_
                      refine lv_iconst (v := nI (4)) F.x F.b dX1_readPass_242 (by decide) ?_
                      refine n_iadd F dX1_readPass_243 ?_
                      refine m_ld (v := (-9)) F I 18 (by decide) (show ((5 * pp) + 4) < 30 by omega) (by exact pk_us) dX1_readPass_244 ?_
                      refine lv_bipush (v := (-9)) F.x F.b dX1_readPass_245 (by decide) ?_
                      refine lv_icmp_eq (x := (-9)) (y := (-9)) (tgt := 254) F.x F.b dX1_readPass_247 (by decide) (fun c_247 => ?_) (fun c_247 => absurd c_247 (by exact fun z9 => z9 rfl))
                      refine lv_iconst (v := nI (0)) F.x F.b dX1_readPass_254 (by decide) ?_
                      exact g_zret (u := (va_up (va_up (va_up (va_up (va_up S.1 14 ((nI (b + (23 + 6 * pp))))) 14 (nI (b + ((23 + 6 * pp) + 1)))) 14 (nI (b + ((24 + 6 * pp) + 1)))) 14 (nI (b + ((25 + 6 * pp) + 1)))) 15 ((nI ((pp + 1)))), va_up (va_up (va_up (va_up (va_up S.2 18 (upd (S.2 18) ((5 * pp)) (nI (2)))) 18 (upd (upd (S.2 18) ((5 * pp)) (nI (2))) (((5 * pp) + 1)) (nI (y101)))) 18 (upd (upd (upd (S.2 18) ((5 * pp)) (nI (2))) (((5 * pp) + 1)) (nI (y101))) (((5 * pp) + 2)) (nI (y162)))) 18 (upd (upd (upd (upd (S.2 18) ((5 * pp)) (nI (2))) (((5 * pp) + 1)) (nI (y101))) (((5 * pp) + 2)) (nI (y162))) (((5 * pp) + 3)) (nI (y192)))) 18 (upd (upd (upd (upd (upd (S.2 18) ((5 * pp)) (nI (2))) (((5 * pp) + 1)) (nI (y101))) (((5 * pp) + 2)) (nI (y162))) (((5 * pp) + 3)) (nI (y192))) (((5 * pp) + 4)) ((-9))))) F I (by first | exact bI_01 _ | exact Or.inl rfl | exact Or.inr rfl) (by exact Or.inr ⟨4, by omega, fun x h1 h2 => by rcases (show x = 22 + 6 * pp ∨ x = 23 + 6 * pp ∨ x = 24 + 6 * pp ∨ x = 25 + 6 * pp by omega) with rfl | rfl | rfl | rfl <;> assumption, fun z9 => by have h9 := z9.2.2; rw [show 22 + 6 * pp + 4 = 26 + 6 * pp by omega, chk_p5] at h9; exact hw223 ⟨by have := z9.1; omega, h9⟩, rfl, congrArg nI (by omega), by exact ⟨rfl, rfl, rfl, rfl, rfl, rfl, rfl, rfl, rfl, rfl, rfl, rfl, rfl, rfl, rfl, rfl, rfl⟩⟩) dX1_readPass_255 (by first | exact Nat.le_refl _ | decide) (by first | exact Nat.le_refl _ | decide)
                  · skip
                    refine m_st F I 18 (by decide) (show ((5 * pp) + 3) < 30 by omega) dX1_readPass_195 (fun H locs (I : Iw G A s (mW G o q (va_up (va_up (va_up S.1 14 ((nI (b + (23 + 6 * pp))))) 14 (nI (b + ((23 + 6 * pp) + 1)))) 14 (nI (b + ((24 + 6 * pp) + 1))), va_up (va_up (va_up (va_up S.2 18 (upd (S.2 18) ((5 * pp)) (nI (2)))) 18 (upd (upd (S.2 18) ((5 * pp)) (nI (2))) (((5 * pp) + 1)) (nI (y101)))) 18 (upd (upd (upd (S.2 18) ((5 * pp)) (nI (2))) (((5 * pp) + 1)) (nI (y101))) (((5 * pp) + 2)) (nI (y162)))) 18 (upd (upd (upd (upd (S.2 18) ((5 * pp)) (nI (2))) (((5 * pp) + 1)) (nI (y101))) (((5 * pp) + 2)) (nI (y162))) (((5 * pp) + 3)) ((-9))))) H locs) => ?_)
                    refine lv_aload_n F.x F.b dX1_readPass_196 rfl (lv_at hl 2 rfl) ?_
                    refine m_geta F I 18 (by decide) q1173 dX1_readPass_197 ?_
                    refine lv_iload_n F.x F.b dX1_readPass_200 rfl (lv_at hl 1 rfl) ?_
                    refine lv_iconst (v := nI (3)) F.x F.b dX1_readPass_201 (by decide) ?_
                    refine n_iadd F dX1_readPass_202 ?_
                    refine m_ld (v := (-9)) F I 18 (by decide) (show ((5 * pp) + 3) < 30 by omega) (by exact pk_us) dX1_readPass_203 ?_
                    refine lv_bipush (v := (-9)) F.x F.b dX1_readPass_204 (by decide) ?_
                    refine lv_icmp_ne (x := (-9)) (y := (-9)) (tgt := 211) F.x F.b dX1_readPass_206 (by decide) (fun c_206 => absurd c_206 (by exact fun z9 => z9 rfl)) (fun c_206 => ?_)
                    refine lv_iconst (v := nI (0)) F.x F.b dX1_readPass_209 (by decide) ?_
                    exact g_zret (u := (va_up (va_up (va_up S.1 14 ((nI (b + (23 + 6 * pp))))) 14 (nI (b + ((23 + 6 * pp) + 1)))) 14 (nI (b + ((24 + 6 * pp) + 1))), va_up (va_up (va_up (va_up S.2 18 (upd (S.2 18) ((5 * pp)) (nI (2)))) 18 (upd (upd (S.2 18) ((5 * pp)) (nI (2))) (((5 * pp) + 1)) (nI (y101)))) 18 (upd (upd (upd (S.2 18) ((5 * pp)) (nI (2))) (((5 * pp) + 1)) (nI (y101))) (((5 * pp) + 2)) (nI (y162)))) 18 (upd (upd (upd (upd (S.2 18) ((5 * pp)) (nI (2))) (((5 * pp) + 1)) (nI (y101))) (((5 * pp) + 2)) (nI (y162))) (((5 * pp) + 3)) ((-9))))) F I (by first | exact bI_01 _ | exact Or.inl rfl | exact Or.inr rfl) (by exact Or.inr ⟨3, by omega, fun x h1 h2 => by rcases (show x = 22 + 6 * pp ∨ x = 23 + 6 * pp ∨ x = 24 + 6 * pp by omega) with rfl | rfl | rfl <;> assumption, fun z9 => by have h9 := z9.2.2; rw [show 22 + 6 * pp + 3 = 25 + 6 * pp by omega, chk_p4] at h9; exact hw192 ⟨by have := z9.1; omega, h9⟩, rfl, congrArg nI (by omega), by exact ⟨rfl, rfl, rfl, rfl, rfl, rfl, rfl, rfl, rfl, rfl, rfl, rfl, rfl, rfl, rfl, rfl, rfl⟩⟩) dX1_readPass_210 (by first | exact Nat.le_refl _ | decide) (by first | exact Nat.le_refl _ | decide)
                · skip
                  refine m_st F I 18 (by decide) (show ((5 * pp) + 2) < 30 by omega) dX1_readPass_165 (fun H locs (I : Iw G A s (mW G o q (va_up (va_up S.1 14 ((nI (b + (23 + 6 * pp))))) 14 (nI (b + ((23 + 6 * pp) + 1))), va_up (va_up (va_up S.2 18 (upd (S.2 18) ((5 * pp)) (nI (2)))) 18 (upd (upd (S.2 18) ((5 * pp)) (nI (2))) (((5 * pp) + 1)) (nI (y101)))) 18 (upd (upd (upd (S.2 18) ((5 * pp)) (nI (2))) (((5 * pp) + 1)) (nI (y101))) (((5 * pp) + 2)) ((-9))))) H locs) => ?_)
                  refine lv_aload_n F.x F.b dX1_readPass_166 rfl (lv_at hl 2 rfl) ?_
                  refine m_geta F I 18 (by decide) q1173 dX1_readPass_167 ?_
                  refine lv_iload_n F.x F.b dX1_readPass_170 rfl (lv_at hl 1 rfl) ?_
                  refine lv_iconst (v := nI (2)) F.x F.b dX1_readPass_171 (by decide) ?_
                  refine n_iadd F dX1_readPass_172 ?_
                  refine m_ld (v := (-9)) F I 18 (by decide) (show ((5 * pp) + 2) < 30 by omega) (by exact pk_us) dX1_readPass_173 ?_
                  refine lv_bipush (v := (-9)) F.x F.b dX1_readPass_174 (by decide) ?_
                  refine lv_icmp_ne (x := (-9)) (y := (-9)) (tgt := 181) F.x F.b dX1_readPass_176 (by decide) (fun c_176 => absurd c_176 (by exact fun z9 => z9 rfl)) (fun c_176 => ?_)
                  refine lv_iconst (v := nI (0)) F.x F.b dX1_readPass_179 (by decide) ?_
                  exact g_zret (u := (va_up (va_up S.1 14 ((nI (b + (23 + 6 * pp))))) 14 (nI (b + ((23 + 6 * pp) + 1))), va_up (va_up (va_up S.2 18 (upd (S.2 18) ((5 * pp)) (nI (2)))) 18 (upd (upd (S.2 18) ((5 * pp)) (nI (2))) (((5 * pp) + 1)) (nI (y101)))) 18 (upd (upd (upd (S.2 18) ((5 * pp)) (nI (2))) (((5 * pp) + 1)) (nI (y101))) (((5 * pp) + 2)) ((-9))))) F I (by first | exact bI_01 _ | exact Or.inl rfl | exact Or.inr rfl) (by exact Or.inr ⟨2, by omega, fun x h1 h2 => by rcases (show x = 22 + 6 * pp ∨ x = 23 + 6 * pp by omega) with rfl | rfl <;> assumption, fun z9 => by have h9 := z9.2.2; rw [show 22 + 6 * pp + 2 = 24 + 6 * pp by omega, chk_p3] at h9; exact hw162 ⟨by have := z9.1; omega, by rw [Bool.and_eq_true] at h9; exact h9.1⟩, rfl, congrArg nI (by omega), by exact ⟨rfl, rfl, rfl, rfl, rfl, rfl, rfl, rfl, rfl, rfl, rfl, rfl, rfl, rfl, rfl, rfl, rfl⟩⟩) dX1_readPass_180 (by first | exact Nat.le_refl _ | decide) (by first | exact Nat.le_refl _ | decide)
              · refine lv_iconst (v := nI (0)) F.x F.b dX1_readPass_149 (by decide) ?_
                exact g_zret (u := (va_up (va_up S.1 14 ((nI (b + (23 + 6 * pp))))) 14 (nI (b + ((23 + 6 * pp) + 1))), va_up (va_up S.2 18 (upd (S.2 18) ((5 * pp)) (nI (2)))) 18 (upd (upd (S.2 18) ((5 * pp)) (nI (2))) (((5 * pp) + 1)) (nI (y101))))) F I (by first | exact bI_01 _ | exact Or.inl rfl | exact Or.inr rfl) (by exact Or.inr ⟨2, by omega, fun x h1 h2 => by rcases (show x = 22 + 6 * pp ∨ x = 23 + 6 * pp by omega) with rfl | rfl <;> assumption, fun z9 => by have h9 := z9.2.2; rw [show 22 + 6 * pp + 2 = 24 + 6 * pp by omega, chk_p3] at h9; exact absurd (n48_eq c_146) (by rw [Bool.and_eq_true] at h9; intro h8; have h7 := h9.2; rw [Bool.not_eq_true', decide_eq_false_iff_not] at h7; exact h7 (h8.trans he101.symm)), rfl, congrArg nI (by omega), by exact ⟨rfl, rfl, rfl, rfl, rfl, rfl, rfl, rfl, rfl, rfl, rfl, rfl, rfl, rfl, rfl, rfl, rfl⟩⟩) dX1_readPass_150 (by first | exact Nat.le_refl _ | decide) (by first | exact Nat.le_refl _ | decide)
          · skip
            refine m_st F I 18 (by decide) (show ((5 * pp) + 1) < 30 by omega) dX1_readPass_104 (fun H locs (I : Iw G A s (mW G o q (va_up S.1 14 ((nI (b + (23 + 6 * pp)))), va_up (va_up S.2 18 (upd (S.2 18) ((5 * pp)) (nI (2)))) 18 (upd (upd (S.2 18) ((5 * pp)) (nI (2))) (((5 * pp) + 1)) ((-9))))) H locs) => ?_)
            refine lv_aload_n F.x F.b dX1_readPass_105 rfl (lv_at hl 2 rfl) ?_
            refine m_geta F I 18 (by decide) q1173 dX1_readPass_106 ?_
            refine lv_iload_n F.x F.b dX1_readPass_109 rfl (lv_at hl 1 rfl) ?_
            refine lv_iconst (v := nI (1)) F.x F.b dX1_readPass_110 (by decide) ?_
            refine n_iadd F dX1_readPass_111 ?_
            refine m_ld (v := (-9)) F I 18 (by decide) (show ((5 * pp) + 1) < 30 by omega) (by exact pk_us) dX1_readPass_112 ?_
            refine lv_bipush (v := (-9)) F.x F.b dX1_readPass_113 (by decide) ?_
            refine lv_icmp_eq (x := (-9)) (y := (-9)) (tgt := 149) F.x F.b dX1_readPass_115 (by decide) (fun c_115 => ?_) (fun c_115 => absurd c_115 (by exact fun z9 => z9 rfl))
            refine lv_iconst (v := nI (0)) F.x F.b dX1_readPass_149 (by decide) ?_
            exact g_zret (u := (va_up S.1 14 ((nI (b + (23 + 6 * pp)))), va_up (va_up S.2 18 (upd (S.2 18) ((5 * pp)) (nI (2)))) 18 (upd (upd (S.2 18) ((5 * pp)) (nI (2))) (((5 * pp) + 1)) ((-9))))) F I (by first | exact bI_01 _ | exact Or.inl rfl | exact Or.inr rfl) (by exact Or.inr ⟨1, by omega, fun x h1 h2 => by rw [show x = 22 + 6 * pp by omega]; exact st0, fun z9 => by have h9 := z9.2.2; rw [show 22 + 6 * pp + 1 = 23 + 6 * pp by omega, chk_p2] at h9; exact hw101 ⟨by have := z9.1; omega, h9⟩, rfl, congrArg nI (by omega), by exact ⟨rfl, rfl, rfl, rfl, rfl, rfl, rfl, rfl, rfl, rfl, rfl, rfl, rfl, rfl, rfl, rfl, rfl⟩⟩) dX1_readPass_150 (by first | exact Nat.le_refl _ | decide) (by first | exact Nat.le_refl _ | decide)
      · refine lv_iconst (v := nI (1)) F.x F.b dX1_readPass_50 (by decide) ?_
        refine lv_goto (tgt := 66) F.x F.b dX1_readPass_51 (by decide) ?_
        refine m_st F I 18 (by decide) (show (5 * pp) < 30 by omega) dX1_readPass_66 (fun H locs (I : Iw G A s (mW G o q (S.1, va_up S.2 18 (upd (S.2 18) ((5 * pp)) (nI (1))))) H locs) => ?_)
        refine lv_aload_n F.x F.b dX1_readPass_67 rfl (lv_at hl 2 rfl) ?_
        refine m_geta F I 18 (by decide) q1173 dX1_readPass_68 ?_
        refine lv_iload_n F.x F.b dX1_readPass_71 rfl (lv_at hl 1 rfl) ?_
        refine m_ld (v := nI (1)) F I 18 (by decide) (show (5 * pp) < 30 by omega) (by exact pk_us) dX1_readPass_72 ?_
        refine lv_bipush (v := (-9)) F.x F.b dX1_readPass_73 (by decide) ?_
        refine lv_icmp_ne (x := 1) (y := (-9)) (tgt := 80) F.x F.b dX1_readPass_75 (by decide) (fun c_75 => ?_) (fun c_75 => absurd c_75 (by first | decide | exact nI_n9 _ (by omega)))
        have st0 : stp (fT S b) n (22 + 6 * pp) := ⟨by omega, by omega, p1_yes (Or.inr (Or.inl c_47))⟩
        have hkd : kdv (fT S b) (22 + 6 * pp) = 1 := kd_1 c_47
        refine lv_aload_n F.x F.b dX1_readPass_80 rfl (lv_at hl 2 rfl) ?_
        refine lv_dup F.x F.b dX1_readPass_81 rfl ?_
        refine m_get (v := (S.1 14)) F I 14 (by decide) rfl q1169 dX1_readPass_82 ?_
        refine W.val (y := nI (b + (22 + 6 * pp))) (by exact hat) ?_
        refine lv_iconst (v := nI (1)) F.x F.b dX1_readPass_85 (by decide) ?_
        refine n_iadd F dX1_readPass_86 ?_
        refine W.val (y := nI (b + (23 + 6 * pp))) (by exact congrArg nI (by omega)) ?_
        refine m_put F I 14 (by decide) q1169 dX1_readPass_87 (fun H locs (I : Iw G A s (mW G o q (va_up S.1 14 ((nI (b + (23 + 6 * pp)))), va_up S.2 18 (upd (S.2 18) ((5 * pp)) (nI (1))))) H locs) => ?_)
        refine lv_aload_n F.x F.b dX1_readPass_90 rfl (lv_at hl 2 rfl) ?_
        refine m_geta F I 18 (by decide) q1173 dX1_readPass_91 ?_
        refine lv_iload_n F.x F.b dX1_readPass_94 rfl (lv_at hl 1 rfl) ?_
        refine lv_iconst (v := nI (1)) F.x F.b dX1_readPass_95 (by decide) ?_
        refine n_iadd F dX1_readPass_96 ?_
        refine lv_aload_n F.x F.b dX1_readPass_97 rfl (lv_at hl 2 rfl) ?_
        refine lv_iload_n F.x F.b dX1_readPass_98 rfl (lv_at hl 3 rfl) ?_
        refine lv_iconst (v := nI (0)) F.x F.b dX1_readPass_99 (by decide) ?_
        refine lv_iconst (v := nI (2)) F.x F.b dX1_readPass_100 (by decide) ?_
        refine g_calli I (g_runV (n := 3) (ci := 0) (q0 := 0) (As := [.int (nI (en)), .int (nI (0)), .int (nI (2))]) (rest := [.int (nI (((5 * pp) + 1))), .ref (q 18)]) F I (mt_digit l G o q ((va_up S.1 14 ((nI (b + (23 + 6 * pp)))), va_up S.2 18 (upd (S.2 18) ((5 * pp)) (nI (1))))) (en) (0) (2) b (23 + 6 * pp) n (by omega) (by omega) (by first | exact hat | exact congrArg nI (by omega)) (by omega) (by omega) (by omega) _) q1272 q1274 qs30 q56 q1275 hd_mt_digit ⟨Nat.le_of_ble_eq_true rfl, Nat.le_of_ble_eq_true rfl⟩ rfl rfl rfl rfl hl.1 rfl (lv_room (Nat.le_of_ble_eq_true rfl)) dX1_readPass_101 ⟨by first | exact Nat.le_refl _ | decide, by first | exact Nat.le_refl _ | decide⟩) (fun r Z101 H locs hp I => ?_)
        rcases hp with ⟨y101, hl101, hh101, hn101, hw101, he101, rfl, rfl⟩ | ⟨hw101, rfl, rfl⟩
        · skip
          refine m_st F I 18 (by decide) (show ((5 * pp) + 1) < 30 by omega) dX1_readPass_104 (fun H locs (I : Iw G A s (mW G o q (va_up (va_up S.1 14 ((nI (b + (23 + 6 * pp))))) 14 (nI (b + ((23 + 6 * pp) + 1))), va_up (va_up S.2 18 (upd (S.2 18) ((5 * pp)) (nI (1)))) 18 (upd (upd (S.2 18) ((5 * pp)) (nI (1))) (((5 * pp) + 1)) (nI (y101))))) H locs) => ?_)
          refine lv_aload_n F.x F.b dX1_readPass_105 rfl (lv_at hl 2 rfl) ?_
          refine m_geta F I 18 (by decide) q1173 dX1_readPass_106 ?_
          refine lv_iload_n F.x F.b dX1_readPass_109 rfl (lv_at hl 1 rfl) ?_
          refine lv_iconst (v := nI (1)) F.x F.b dX1_readPass_110 (by decide) ?_
          refine n_iadd F dX1_readPass_111 ?_
          refine m_ld (v := nI (y101)) F I 18 (by decide) (show ((5 * pp) + 1) < 30 by omega) (by exact pk_us) dX1_readPass_112 ?_
          have st1 : stp (fT S b) n (23 + 6 * pp) := ⟨hn101, by omega, by rw [chk_p2]; exact hw101⟩
          refine lv_bipush (v := (-9)) F.x F.b dX1_readPass_113 (by decide) ?_
          refine lv_icmp_eq (x := (nI (y101))) (y := (-9)) (tgt := 149) F.x F.b dX1_readPass_115 (by decide) (fun c_115 => absurd c_115 (by exact nI_n9 _ (by omega))) (fun c_115 => ?_)
          refine lv_aload_n F.x F.b dX1_readPass_118 rfl (lv_at hl 2 rfl) ?_
          refine m_get (v := nI (b + ((23 + 6 * pp) + 1))) F I 14 (by decide) rfl q1169 dX1_readPass_119 ?_
          refine W.val (y := nI (b + (24 + 6 * pp))) (by exact congrArg nI (by omega)) ?_
          refine lv_iload_n F.x F.b dX1_readPass_122 rfl (lv_at hl 3 rfl) ?_
          refine n_icmp_ge (tgt := 151) F (by omega) (by omega) dX1_readPass_123 (by decide) (fun c_123 => ?_) (fun c_123 => ?_)
          · refine lv_aload_n F.x F.b dX1_readPass_151 rfl (lv_at hl 2 rfl) ?_
            refine m_geta F I 18 (by decide) q1173 dX1_readPass_152 ?_
            refine lv_iload_n F.x F.b dX1_readPass_155 rfl (lv_at hl 1 rfl) ?_
            refine lv_iconst (v := nI (2)) F.x F.b dX1_readPass_156 (by decide) ?_
            refine n_iadd F dX1_readPass_157 ?_
            refine lv_aload_n F.x F.b dX1_readPass_158 rfl (lv_at hl 2 rfl) ?_
            refine lv_iload_n F.x F.b dX1_readPass_159 rfl (lv_at hl 3 rfl) ?_
            refine lv_iconst (v := nI (0)) F.x F.b dX1_readPass_160 (by decide) ?_
            refine lv_iconst (v := nI (2)) F.x F.b dX1_readPass_161 (by decide) ?_
            refine g_calli I (g_runV (n := 3) (ci := 0) (q0 := 0) (As := [.int (nI (en)), .int (nI (0)), .int (nI (2))]) (rest := [.int (nI (((5 * pp) + 2))), .ref (q 18)]) F I (mt_digit l G o q ((va_up (va_up S.1 14 ((nI (b + (23 + 6 * pp))))) 14 (nI (b + ((23 + 6 * pp) + 1))), va_up (va_up S.2 18 (upd (S.2 18) ((5 * pp)) (nI (1)))) 18 (upd (upd (S.2 18) ((5 * pp)) (nI (1))) (((5 * pp) + 1)) (nI (y101))))) (en) (0) (2) b (24 + 6 * pp) n (by omega) (by omega) (by first | exact hat | exact congrArg nI (by omega)) (by omega) (by omega) (by omega) _) q1272 q1274 qs30 q56 q1275 hd_mt_digit ⟨Nat.le_of_ble_eq_true rfl, Nat.le_of_ble_eq_true rfl⟩ rfl rfl rfl rfl hl.1 rfl (lv_room (Nat.le_of_ble_eq_true rfl)) dX1_readPass_162 ⟨by first | exact Nat.le_refl _ | decide, by first | exact Nat.le_refl _ | decide⟩) (fun r Z162 H locs hp I => ?_)
            rcases hp with ⟨y162, hl162, hh162, hn162, hw162, he162, rfl, rfl⟩ | ⟨hw162, rfl, rfl⟩
            · skip
              refine m_st F I 18 (by decide) (show ((5 * pp) + 2) < 30 by omega) dX1_readPass_165 (fun H locs (I : Iw G A s (mW G o q (va_up (va_up (va_up S.1 14 ((nI (b + (23 + 6 * pp))))) 14 (nI (b + ((23 + 6 * pp) + 1)))) 14 (nI (b + ((24 + 6 * pp) + 1))), va_up (va_up (va_up S.2 18 (upd (S.2 18) ((5 * pp)) (nI (1)))) 18 (upd (upd (S.2 18) ((5 * pp)) (nI (1))) (((5 * pp) + 1)) (nI (y101)))) 18 (upd (upd (upd (S.2 18) ((5 * pp)) (nI (1))) (((5 * pp) + 1)) (nI (y101))) (((5 * pp) + 2)) (nI (y162))))) H locs) => ?_)
              refine lv_aload_n F.x F.b dX1_readPass_166 rfl (lv_at hl 2 rfl) ?_
              refine m_geta F I 18 (by decide) q1173 dX1_readPass_167 ?_
              refine lv_iload_n F.x F.b dX1_readPass_170 rfl (lv_at hl 1 rfl) ?_
              refine lv_iconst (v := nI (2)) F.x F.b dX1_readPass_171 (by decide) ?_
              refine n_iadd F dX1_readPass_172 ?_
              refine m_ld (v := nI (y162)) F I 18 (by decide) (show ((5 * pp) + 2) < 30 by omega) (by exact pk_us) dX1_readPass_173 ?_
              have st2 : stp (fT S b) n (24 + 6 * pp) := ⟨hn162, by omega, by rw [chk_p3, Bool.and_eq_true]; refine ⟨hw162, ?_⟩; rw [Bool.not_eq_true', decide_eq_false_iff_not]; intro z9; omega⟩
              refine lv_bipush (v := (-9)) F.x F.b dX1_readPass_174 (by decide) ?_
              refine lv_icmp_ne (x := (nI (y162))) (y := (-9)) (tgt := 181) F.x F.b dX1_readPass_176 (by decide) (fun c_176 => ?_) (fun c_176 => absurd c_176 (by first | decide | exact nI_n9 _ (by omega)))
              refine lv_aload_n F.x F.b dX1_readPass_181 rfl (lv_at hl 2 rfl) ?_
              refine m_geta F I 18 (by decide) q1173 dX1_readPass_182 ?_
              refine lv_iload_n F.x F.b dX1_readPass_185 rfl (lv_at hl 1 rfl) ?_
              refine lv_iconst (v := nI (3)) F.x F.b dX1_readPass_186 (by decide) ?_
              refine n_iadd F dX1_readPass_187 ?_
              refine lv_aload_n F.x F.b dX1_readPass_188 rfl (lv_at hl 2 rfl) ?_
              refine lv_iload_n F.x F.b dX1_readPass_189 rfl (lv_at hl 3 rfl) ?_
              refine lv_iconst (v := nI (1)) F.x F.b dX1_readPass_190 (by decide) ?_
              refine lv_iconst (v := nI (3)) F.x F.b dX1_readPass_191 (by decide) ?_
              refine g_calli I (g_runV (n := 3) (ci := 0) (q0 := 0) (As := [.int (nI (en)), .int (nI (1)), .int (nI (3))]) (rest := [.int (nI (((5 * pp) + 3))), .ref (q 18)]) F I (mt_digit l G o q ((va_up (va_up (va_up S.1 14 ((nI (b + (23 + 6 * pp))))) 14 (nI (b + ((23 + 6 * pp) + 1)))) 14 (nI (b + ((24 + 6 * pp) + 1))), va_up (va_up (va_up S.2 18 (upd (S.2 18) ((5 * pp)) (nI (1)))) 18 (upd (upd (S.2 18) ((5 * pp)) (nI (1))) (((5 * pp) + 1)) (nI (y101)))) 18 (upd (upd (upd (S.2 18) ((5 * pp)) (nI (1))) (((5 * pp) + 1)) (nI (y101))) (((5 * pp) + 2)) (nI (y162))))) (en) (1) (3) b (25 + 6 * pp) n (by omega) (by omega) (by first | exact hat | exact congrArg nI (by omega)) (by omega) (by omega) (by omega) _) q1272 q1274 qs30 q56 q1275 hd_mt_digit ⟨Nat.le_of_ble_eq_true rfl, Nat.le_of_ble_eq_true rfl⟩ rfl rfl rfl rfl hl.1 rfl (lv_room (Nat.le_of_ble_eq_true rfl)) dX1_readPass_192 ⟨by first | exact Nat.le_refl _ | decide, by first | exact Nat.le_refl _ | decide⟩) (fun r Z192 H locs hp I => ?_)
              rcases hp with ⟨y192, hl192, hh192, hn192, hw192, he192, rfl, rfl⟩ | ⟨hw192, rfl, rfl⟩
              · skip
                refine m_st F I 18 (by decide) (show ((5 * pp) + 3) < 30 by omega) dX1_readPass_195 (fun H locs (I : Iw G A s (mW G o q (va_up (va_up (va_up (va_up S.1 14 ((nI (b + (23 + 6 * pp))))) 14 (nI (b + ((23 + 6 * pp) + 1)))) 14 (nI (b + ((24 + 6 * pp) + 1)))) 14 (nI (b + ((25 + 6 * pp) + 1))), va_up (va_up (va_up (va_up S.2 18 (upd (S.2 18) ((5 * pp)) (nI (1)))) 18 (upd (upd (S.2 18) ((5 * pp)) (nI (1))) (((5 * pp) + 1)) (nI (y101)))) 18 (upd (upd (upd (S.2 18) ((5 * pp)) (nI (1))) (((5 * pp) + 1)) (nI (y101))) (((5 * pp) + 2)) (nI (y162)))) 18 (upd (upd (upd (upd (S.2 18) ((5 * pp)) (nI (1))) (((5 * pp) + 1)) (nI (y101))) (((5 * pp) + 2)) (nI (y162))) (((5 * pp) + 3)) (nI (y192))))) H locs) => ?_)
                refine lv_aload_n F.x F.b dX1_readPass_196 rfl (lv_at hl 2 rfl) ?_
                refine m_geta F I 18 (by decide) q1173 dX1_readPass_197 ?_
                refine lv_iload_n F.x F.b dX1_readPass_200 rfl (lv_at hl 1 rfl) ?_
                refine lv_iconst (v := nI (3)) F.x F.b dX1_readPass_201 (by decide) ?_
                refine n_iadd F dX1_readPass_202 ?_
                refine m_ld (v := nI (y192)) F I 18 (by decide) (show ((5 * pp) + 3) < 30 by omega) (by exact pk_us) dX1_readPass_203 ?_
                have st3 : stp (fT S b) n (25 + 6 * pp) := ⟨hn192, by omega, by rw [chk_p4]; exact hw192⟩
                refine lv_bipush (v := (-9)) F.x F.b dX1_readPass_204 (by decide) ?_
                refine lv_icmp_ne (x := (nI (y192))) (y := (-9)) (tgt := 211) F.x F.b dX1_readPass_206 (by decide) (fun c_206 => ?_) (fun c_206 => absurd c_206 (by first | decide | exact nI_n9 _ (by omega)))
                refine lv_aload_n F.x F.b dX1_readPass_211 rfl (lv_at hl 2 rfl) ?_
                refine m_geta F I 18 (by decide) q1173 dX1_readPass_212 ?_
                refine lv_iload_n F.x F.b dX1_readPass_215 rfl (lv_at hl 1 rfl) ?_
                refine lv_iconst (v := nI (4)) F.x F.b dX1_readPass_216 (by decide) ?_
                refine n_iadd F dX1_readPass_217 ?_
                refine lv_aload_n F.x F.b dX1_readPass_218 rfl (lv_at hl 2 rfl) ?_
                refine lv_iload_n F.x F.b dX1_readPass_219 rfl (lv_at hl 3 rfl) ?_
                refine lv_iconst (v := nI (0)) F.x F.b dX1_readPass_220 (by decide) ?_
                refine lv_bipush (v := nI (9)) F.x F.b dX1_readPass_221 (by decide) ?_
                refine g_calli I (g_runV (n := 3) (ci := 0) (q0 := 0) (As := [.int (nI (en)), .int (nI (0)), .int (nI (9))]) (rest := [.int (nI (((5 * pp) + 4))), .ref (q 18)]) F I (mt_digit l G o q ((va_up (va_up (va_up (va_up S.1 14 ((nI (b + (23 + 6 * pp))))) 14 (nI (b + ((23 + 6 * pp) + 1)))) 14 (nI (b + ((24 + 6 * pp) + 1)))) 14 (nI (b + ((25 + 6 * pp) + 1))), va_up (va_up (va_up (va_up S.2 18 (upd (S.2 18) ((5 * pp)) (nI (1)))) 18 (upd (upd (S.2 18) ((5 * pp)) (nI (1))) (((5 * pp) + 1)) (nI (y101)))) 18 (upd (upd (upd (S.2 18) ((5 * pp)) (nI (1))) (((5 * pp) + 1)) (nI (y101))) (((5 * pp) + 2)) (nI (y162)))) 18 (upd (upd (upd (upd (S.2 18) ((5 * pp)) (nI (1))) (((5 * pp) + 1)) (nI (y101))) (((5 * pp) + 2)) (nI (y162))) (((5 * pp) + 3)) (nI (y192))))) (en) (0) (9) b (26 + 6 * pp) n (by omega) (by omega) (by first | exact hat | exact congrArg nI (by omega)) (by omega) (by omega) (by omega) _) q1272 q1274 qs30 q56 q1275 hd_mt_digit ⟨Nat.le_of_ble_eq_true rfl, Nat.le_of_ble_eq_true rfl⟩ rfl rfl rfl rfl hl.1 rfl (lv_room (Nat.le_of_ble_eq_true rfl)) dX1_readPass_223 ⟨by first | exact Nat.le_refl _ | decide, by first | exact Nat.le_refl _ | decide⟩) (fun r Z223 H locs hp I => ?_)
                rcases hp with ⟨y223, hl223, hh223, hn223, hw223, he223, rfl, rfl⟩ | ⟨hw223, rfl, rfl⟩
                · skip
                  refine m_st F I 18 (by decide) (show ((5 * pp) + 4) < 30 by omega) dX1_readPass_226 (fun H locs (I : Iw G A s (mW G o q (va_up (va_up (va_up (va_up (va_up S.1 14 ((nI (b + (23 + 6 * pp))))) 14 (nI (b + ((23 + 6 * pp) + 1)))) 14 (nI (b + ((24 + 6 * pp) + 1)))) 14 (nI (b + ((25 + 6 * pp) + 1)))) 14 (nI (b + ((26 + 6 * pp) + 1))), va_up (va_up (va_up (va_up (va_up S.2 18 (upd (S.2 18) ((5 * pp)) (nI (1)))) 18 (upd (upd (S.2 18) ((5 * pp)) (nI (1))) (((5 * pp) + 1)) (nI (y101)))) 18 (upd (upd (upd (S.2 18) ((5 * pp)) (nI (1))) (((5 * pp) + 1)) (nI (y101))) (((5 * pp) + 2)) (nI (y162)))) 18 (upd (upd (upd (upd (S.2 18) ((5 * pp)) (nI (1))) (((5 * pp) + 1)) (nI (y101))) (((5 * pp) + 2)) (nI (y162))) (((5 * pp) + 3)) (nI (y192)))) 18 (upd (upd (upd (upd (upd (S.2 18) ((5 * pp)) (nI (1))) (((5 * pp) + 1)) (nI (y101))) (((5 * pp) + 2)) (nI (y162))) (((5 * pp) + 3)) (nI (y192))) (((5 * pp) + 4)) (nI (y223))))) H locs) => ?_)
                  refine lv_aload_n F.x F.b dX1_readPass_227 rfl (lv_at hl 2 rfl) ?_
                  refine lv_dup F.x F.b dX1_readPass_228 rfl ?_
                  refine m_get (v := (S.1 15)) F I 15 (by decide) rfl q1170 dX1_readPass_229 ?_
                  refine W.val (y := nI (pp)) (by exact hrm) ?_
                  refine lv_iconst (v := nI (1)) F.x F.b dX1_readPass_232 (by decide) ?_
                  refine n_iadd F dX1_readPass_233 ?_
                  refine W.val (y := nI ((pp + 1))) (by rfl) ?_
                  refine m_put F I 15 (by decide) q1170 dX1_readPass_234 (fun H locs (I : Iw G A s (mW G o q (va_up (va_up (va_up (va_up (va_up (va_up S.1 14 ((nI (b + (23 + 6 * pp))))) 14 (nI (b + ((23 + 6 * pp) + 1)))) 14 (nI (b + ((24 + 6 * pp) + 1)))) 14 (nI (b + ((25 + 6 * pp) + 1)))) 14 (nI (b + ((26 + 6 * pp) + 1)))) 15 ((nI ((pp + 1)))), va_up (va_up (va_up (va_up (va_up S.2 18 (upd (S.2 18) ((5 * pp)) (nI (1)))) 18 (upd (upd (S.2 18) ((5 * pp)) (nI (1))) (((5 * pp) + 1)) (nI (y101)))) 18 (upd (upd (upd (S.2 18) ((5 * pp)) (nI (1))) (((5 * pp) + 1)) (nI (y101))) (((5 * pp) + 2)) (nI (y162)))) 18 (upd (upd (upd (upd (S.2 18) ((5 * pp)) (nI (1))) (((5 * pp) + 1)) (nI (y101))) (((5 * pp) + 2)) (nI (y162))) (((5 * pp) + 3)) (nI (y192)))) 18 (upd (upd (upd (upd (upd (S.2 18) ((5 * pp)) (nI (1))) (((5 * pp) + 1)) (nI (y101))) (((5 * pp) + 2)) (nI (y162))) (((5 * pp) + 3)) (nI (y192))) (((5 * pp) + 4)) (nI (y223))))) H locs) => ?_)
                  refine lv_aload_n F.x F.b dX1_readPass_237 rfl (lv_at hl 2 rfl) ?_
                  refine m_geta F I 18 (by decide) q1173 dX1_readPass_238 ?_
                  refine lv_iload_n F.x F.b dX1_readPass_241 rfl (lv_at hl 1 rfl) ?_
                  refine lv_iconst (v := nI (4)) F.x F.b dX1_readPass_242 (by decide) ?_
                  refine n_iadd F dX1_readPass_243 ?_
                  refine m_ld (v := nI (y223)) F I 18 (by decide) (show ((5 * pp) + 4) < 30 by omega) (by exact pk_us) dX1_readPass_244 ?_
                  have st4 : stp (fT S b) n (26 + 6 * pp) := ⟨hn223, by omega, by rw [chk_p5]; exact hw223⟩
                  refine lv_bipush (v := (-9)) F.x F.b dX1_readPass_245 (by decide) ?_
                  refine lv_icmp_eq (x := (nI (y223))) (y := (-9)) (tgt := 254) F.x F.b dX1_readPass_247 (by decide) (fun c_247 => absurd c_247 (by exact nI_n9 _ (by omega))) (fun c_247 => ?_)
                  refine lv_iconst (v := nI (1)) F.x F.b dX1_readPass_250 (by decide) ?_
                  refine lv_goto (tgt := 255) F.x F.b dX1_readPass_251 (by decide) ?_
                  exact g_zret (u := (va_up (va_up (va_up (va_up (va_up (va_up S.1 14 ((nI (b + (23 + 6 * pp))))) 14 (nI (b + ((23 + 6 * pp) + 1)))) 14 (nI (b + ((24 + 6 * pp) + 1)))) 14 (nI (b + ((25 + 6 * pp) + 1)))) 14 (nI (b + ((26 + 6 * pp) + 1)))) 15 ((nI ((pp + 1)))), va_up (va_up (va_up (va_up (va_up S.2 18 (upd (S.2 18) ((5 * pp)) (nI (1)))) 18 (upd (upd (S.2 18) ((5 * pp)) (nI (1))) (((5 * pp) + 1)) (nI (y101)))) 18 (upd (upd (upd (S.2 18) ((5 * pp)) (nI (1))) (((5 * pp) + 1)) (nI (y101))) (((5 * pp) + 2)) (nI (y162)))) 18 (upd (upd (upd (upd (S.2 18) ((5 * pp)) (nI (1))) (((5 * pp) + 1)) (nI (y101))) (((5 * pp) + 2)) (nI (y162))) (((5 * pp) + 3)) (nI (y192)))) 18 (upd (upd (upd (upd (upd (S.2 18) ((5 * pp)) (nI (1))) (((5 * pp) + 1)) (nI (y101))) (((5 * pp) + 2)) (nI (y162))) (((5 * pp) + 3)) (nI (y192))) (((5 * pp) + 4)) (nI (y223))))) F I (by first | exact bI_01 _ | exact Or.inl rfl | exact Or.inr rfl) (by exact Or.inl ⟨fun x h1 h2 => by rcases (show x = 22 + 6 * pp ∨ x = 23 + 6 * pp ∨ x = 24 + 6 * pp ∨ x = 25 + 6 * pp ∨ x = 26 + 6 * pp by omega) with rfl | rfl | rfl | rfl | rfl <;> assumption, rfl, congrArg nI (by omega), rfl, rfl, rfl, by rw [hkd, dv_y (f := fT S b) he101 (by omega), dv_y (f := fT S b) he162 (by omega), dv_y (f := fT S b) he192 (by omega), dv_y (f := fT S b) he223 (by omega)]; rfl, by rw [hkd]; decide, by rw [dv_y (f := fT S b) he101 (by omega)]; omega, by rw [dv_y (f := fT S b) he162 (by omega)]; omega, by rw [dv_y (f := fT S b) he192 (by omega)]; omega, by rw [dv_y (f := fT S b) he192 (by omega)]; omega, by rw [dv_y (f := fT S b) he223 (by omega)]; omega, by exact ⟨rfl, rfl, rfl, rfl, rfl, rfl, rfl, rfl, rfl, rfl, rfl, rfl, rfl, rfl, rfl, rfl, rfl⟩⟩) dX1_readPass_255 (by first | exact Nat.le_refl _ | decide) (by first | exact Nat.le_refl _ | decide)
                · skip
                  refine m_st F I 18 (by decide) (show ((5 * pp) + 4) < 30 by omega) dX1_readPass_226 (fun H locs (I : Iw G A s (mW G o q (va_up (va_up (va_up (va_up S.1 14 ((nI (b + (23 + 6 * pp))))) 14 (nI (b + ((23 + 6 * pp) + 1)))) 14 (nI (b + ((24 + 6 * pp) + 1)))) 14 (nI (b + ((25 + 6 * pp) + 1))), va_up (va_up (va_up (va_up (va_up S.2 18 (upd (S.2 18) ((5 * pp)) (nI (1)))) 18 (upd (upd (S.2 18) ((5 * pp)) (nI (1))) (((5 * pp) + 1)) (nI (y101)))) 18 (upd (upd (upd (S.2 18) ((5 * pp)) (nI (1))) (((5 * pp) + 1)) (nI (y101))) (((5 * pp) + 2)) (nI (y162)))) 18 (upd (upd (upd (upd (S.2 18) ((5 * pp)) (nI (1))) (((5 * pp) + 1)) (nI (y101))) (((5 * pp) + 2)) (nI (y162))) (((5 * pp) + 3)) (nI (y192)))) 18 (upd (upd (upd (upd (upd (S.2 18) ((5 * pp)) (nI (1))) (((5 * pp) + 1)) (nI (y101))) (((5 * pp) + 2)) (nI (y162))) (((5 * pp) + 3)) (nI (y192))) (((5 * pp) + 4)) ((-9))))) H locs) => ?_)
                  refine lv_aload_n F.x F.b dX1_readPass_227 rfl (lv_at hl 2 rfl) ?_
                  refine lv_dup F.x F.b dX1_readPass_228 rfl ?_
                  refine m_get (v := (S.1 15)) F I 15 (by decide) rfl q1170 dX1_readPass_229 ?_
                  refine W.val (y := nI (pp)) (by exact hrm) ?_
                  refine lv_iconst (v := nI (1)) F.x F.b dX1_readPass_232 (by decide) ?_
                  refine n_iadd F dX1_readPass_233 ?_
                  refine W.val (y := nI ((pp + 1))) (by rfl) ?_
                  refine m_put F I 15 (by decide) q1170 dX1_readPass_234 (fun H locs (I : Iw G A s (mW G o q (va_up (va_up (va_up (va_up (va_up S.1 14 ((nI (b + (23 + 6 * pp))))) 14 (nI (b + ((23 + 6 * pp) + 1)))) 14 (nI (b + ((24 + 6 * pp) + 1)))) 14 (nI (b + ((25 + 6 * pp) + 1)))) 15 ((nI ((pp + 1)))), va_up (va_up (va_up (va_up (va_up S.2 18 (upd (S.2 18) ((5 * pp)) (nI (1)))) 18 (upd (upd (S.2 18) ((5 * pp)) (nI (1))) (((5 * pp) + 1)) (nI (y101)))) 18 (upd (upd (upd (S.2 18) ((5 * pp)) (nI (1))) (((5 * pp) + 1)) (nI (y101))) (((5 * pp) + 2)) (nI (y162)))) 18 (upd (upd (upd (upd (S.2 18) ((5 * pp)) (nI (1))) (((5 * pp) + 1)) (nI (y101))) (((5 * pp) + 2)) (nI (y162))) (((5 * pp) + 3)) (nI (y192)))) 18 (upd (upd (upd (upd (upd (S.2 18) ((5 * pp)) (nI (1))) (((5 * pp) + 1)) (nI (y101))) (((5 * pp) + 2)) (nI (y162))) (((5 * pp) + 3)) (nI (y192))) (((5 * pp) + 4)) ((-9))))) H locs) => ?_)
                  refine lv_aload_n F.x F.b dX1_readPass_237 rfl (lv_at hl 2 rfl) ?_
                  refine m_geta F I 18 (by decide) q1173 dX1_readPass_238 ?_
                  refine lv_iload_n F.x F.b dX1_readPass_241 rfl (lv_at hl 1 rfl) ?_
                  refine lv_iconst (v := nI (4)) F.x F.b dX1_readPass_242 (by decide) ?_
                  refine n_iadd F dX1_readPass_243 ?_
                  refine m_ld (v := (-9)) F I 18 (by decide) (show ((5 * pp) + 4) < 30 by omega) (by exact pk_us) dX1_readPass_244 ?_
                  refine lv_bipush (v := (-9)) F.x F.b dX1_readPass_245 (by decide) ?_
                  refine lv_icmp_eq (x := (-9)) (y := (-9)) (tgt := 254) F.x F.b dX1_readPass_247 (by decide) (fun c_247 => ?_) (fun c_247 => absurd c_247 (by exact fun z9 => z9 rfl))
                  refine lv_iconst (v := nI (0)) F.x F.b dX1_readPass_254 (by decide) ?_
                  exact g_zret (u := (va_up (va_up (va_up (va_up (va_up S.1 14 ((nI (b + (23 + 6 * pp))))) 14 (nI (b + ((23 + 6 * pp) + 1)))) 14 (nI (b + ((24 + 6 * pp) + 1)))) 14 (nI (b + ((25 + 6 * pp) + 1)))) 15 ((nI ((pp + 1)))), va_up (va_up (va_up (va_up (va_up S.2 18 (upd (S.2 18) ((5 * pp)) (nI (1)))) 18 (upd (upd (S.2 18) ((5 * pp)) (nI (1))) (((5 * pp) + 1)) (nI (y101)))) 18 (upd (upd (upd (S.2 18) ((5 * pp)) (nI (1))) (((5 * pp) + 1)) (nI (y101))) (((5 * pp) + 2)) (nI (y162)))) 18 (upd (upd (upd (upd (S.2 18) ((5 * pp)) (nI (1))) (((5 * pp) + 1)) (nI (y101))) (((5 * pp) + 2)) (nI (y162))) (((5 * pp) + 3)) (nI (y192)))) 18 (upd (upd (upd (upd (upd (S.2 18) ((5 * pp)) (nI (1))) (((5 * pp) + 1)) (nI (y101))) (((5 * pp) + 2)) (nI (y162))) (((5 * pp) + 3)) (nI (y192))) (((5 * pp) + 4)) ((-9))))) F I (by first | exact bI_01 _ | exact Or.inl rfl | exact Or.inr rfl) (by exact Or.inr ⟨4, by omega, fun x h1 h2 => by rcases (show x = 22 + 6 * pp ∨ x = 23 + 6 * pp ∨ x = 24 + 6 * pp ∨ x = 25 + 6 * pp by omega) with rfl | rfl | rfl | rfl <;> assumption, fun z9 => by have h9 := z9.2.2; rw [show 22 + 6 * pp + 4 = 26 + 6 * pp by omega, chk_p5] at h9; exact hw223 ⟨by have := z9.1; omega, h9⟩, rfl, congrArg nI (by omega), by exact ⟨rfl, rfl, rfl, rfl, rfl, rfl, rfl, rfl, rfl, rfl, rfl, rfl, rfl, rfl, rfl, rfl, rfl⟩⟩) dX1_readPass_255 (by first | exact Nat.le_refl _ | decide) (by first | exact Nat.le_refl _ | decide)
              · skip
                refine m_st F I 18 (by decide) (show ((5 * pp) + 3) < 30 by omega) dX1_readPass_195 (fun H locs (I : Iw G A s (mW G o q (va_up (va_up (va_up S.1 14 ((nI (b + (23 + 6 * pp))))) 14 (nI (b + ((23 + 6 * pp) + 1)))) 14 (nI (b + ((24 + 6 * pp) + 1))), va_up (va_up (va_up (va_up S.2 18 (upd (S.2 18) ((5 * pp)) (nI (1)))) 18 (upd (upd (S.2 18) ((5 * pp)) (nI (1))) (((5 * pp) + 1)) (nI (y101)))) 18 (upd (upd (upd (S.2 18) ((5 * pp)) (nI (1))) (((5 * pp) + 1)) (nI (y101))) (((5 * pp) + 2)) (nI (y162)))) 18 (upd (upd (upd (upd (S.2 18) ((5 * pp)) (nI (1))) (((5 * pp) + 1)) (nI (y101))) (((5 * pp) + 2)) (nI (y162))) (((5 * pp) + 3)) ((-9))))) H locs) => ?_)
                refine lv_aload_n F.x F.b dX1_readPass_196 rfl (lv_at hl 2 rfl) ?_
                refine m_geta F I 18 (by decide) q1173 dX1_readPass_197 ?_
                refine lv_iload_n F.x F.b dX1_readPass_200 rfl (lv_at hl 1 rfl) ?_
                refine lv_iconst (v := nI (3)) F.x F.b dX1_readPass_201 (by decide) ?_
                refine n_iadd F dX1_readPass_202 ?_
                refine m_ld (v := (-9)) F I 18 (by decide) (show ((5 * pp) + 3) < 30 by omega) (by exact pk_us) dX1_readPass_203 ?_
                refine lv_bipush (v := (-9)) F.x F.b dX1_readPass_204 (by decide) ?_
                refine lv_icmp_ne (x := (-9)) (y := (-9)) (tgt := 211) F.x F.b dX1_readPass_206 (by decide) (fun c_206 => absurd c_206 (by exact fun z9 => z9 rfl)) (fun c_206 => ?_)
                refine lv_iconst (v := nI (0)) F.x F.b dX1_readPass_209 (by decide) ?_
                exact g_zret (u := (va_up (va_up (va_up S.1 14 ((nI (b + (23 + 6 * pp))))) 14 (nI (b + ((23 + 6 * pp) + 1)))) 14 (nI (b + ((24 + 6 * pp) + 1))), va_up (va_up (va_up (va_up S.2 18 (upd (S.2 18) ((5 * pp)) (nI (1)))) 18 (upd (upd (S.2 18) ((5 * pp)) (nI (1))) (((5 * pp) + 1)) (nI (y101)))) 18 (upd (upd (upd (S.2 18) ((5 * pp)) (nI (1))) (((5 * pp) + 1)) (nI (y101))) (((5 * pp) + 2)) (nI (y162)))) 18 (upd (upd (upd (upd (S.2 18) ((5 * pp)) (nI (1))) (((5 * pp) + 1)) (nI (y101))) (((5 * pp) + 2)) (nI (y162))) (((5 * pp) + 3)) ((-9))))) F I (by first | exact bI_01 _ | exact Or.inl rfl | exact Or.inr rfl) (by exact Or.inr ⟨3, by omega, fun x h1 h2 => by rcases (show x = 22 + 6 * pp ∨ x = 23 + 6 * pp ∨ x = 24 + 6 * pp by omega) with rfl | rfl | rfl <;> assumption, fun z9 => by have h9 := z9.2.2; rw [show 22 + 6 * pp + 3 = 25 + 6 * pp by omega, chk_p4] at h9; exact hw192 ⟨by have := z9.1; omega, h9⟩, rfl, congrArg nI (by omega), by exact ⟨rfl, rfl, rfl, rfl, rfl, rfl, rfl, rfl, rfl, rfl, rfl, rfl, rfl, rfl, rfl, rfl, rfl⟩⟩) dX1_readPass_210 (by first | exact Nat.le_refl _ | decide) (by first | exact Nat.le_refl _ | decide)
            · skip
              refine m_st F I 18 (by decide) (show ((5 * pp) + 2) < 30 by omega) dX1_readPass_165 (fun H locs (I : Iw G A s (mW G o q (va_up (va_up S.1 14 ((nI (b + (23 + 6 * pp))))) 14 (nI (b + ((23 + 6 * pp) + 1))), va_up (va_up (va_up S.2 18 (upd (S.2 18) ((5 * pp)) (nI (1)))) 18 (upd (upd (S.2 18) ((5 * pp)) (nI (1))) (((5 * pp) + 1)) (nI (y101)))) 18 (upd (upd (upd (S.2 18) ((5 * pp)) (nI (1))) (((5 * pp) + 1)) (nI (y101))) (((5 * pp) + 2)) ((-9))))) H locs) => ?_)
              refine lv_aload_n F.x F.b dX1_readPass_166 rfl (lv_at hl 2 rfl) ?_
              refine m_geta F I 18 (by decide) q1173 dX1_readPass_167 ?_
              refine lv_iload_n F.x F.b dX1_readPass_170 rfl (lv_at hl 1 rfl) ?_
              refine lv_iconst (v := nI (2)) F.x F.b dX1_readPass_171 (by decide) ?_
              refine n_iadd F dX1_readPass_172 ?_
              refine m_ld (v := (-9)) F I 18 (by decide) (show ((5 * pp) + 2) < 30 by omega) (by exact pk_us) dX1_readPass_173 ?_
              refine lv_bipush (v := (-9)) F.x F.b dX1_readPass_174 (by decide) ?_
              refine lv_icmp_ne (x := (-9)) (y := (-9)) (tgt := 181) F.x F.b dX1_readPass_176 (by decide) (fun c_176 => absurd c_176 (by exact fun z9 => z9 rfl)) (fun c_176 => ?_)
              refine lv_iconst (v := nI (0)) F.x F.b dX1_readPass_179 (by decide) ?_
              exact g_zret (u := (va_up (va_up S.1 14 ((nI (b + (23 + 6 * pp))))) 14 (nI (b + ((23 + 6 * pp) + 1))), va_up (va_up (va_up S.2 18 (upd (S.2 18) ((5 * pp)) (nI (1)))) 18 (upd (upd (S.2 18) ((5 * pp)) (nI (1))) (((5 * pp) + 1)) (nI (y101)))) 18 (upd (upd (upd (S.2 18) ((5 * pp)) (nI (1))) (((5 * pp) + 1)) (nI (y101))) (((5 * pp) + 2)) ((-9))))) F I (by first | exact bI_01 _ | exact Or.inl rfl | exact Or.inr rfl) (by exact Or.inr ⟨2, by omega, fun x h1 h2 => by rcases (show x = 22 + 6 * pp ∨ x = 23 + 6 * pp by omega) with rfl | rfl <;> assumption, fun z9 => by have h9 := z9.2.2; rw [show 22 + 6 * pp + 2 = 24 + 6 * pp by omega, chk_p3] at h9; exact hw162 ⟨by have := z9.1; omega, by rw [Bool.and_eq_true] at h9; exact h9.1⟩, rfl, congrArg nI (by omega), by exact ⟨rfl, rfl, rfl, rfl, rfl, rfl, rfl, rfl, rfl, rfl, rfl, rfl, rfl, rfl, rfl, rfl, rfl⟩⟩) dX1_readPass_180 (by first | exact Nat.le_refl _ | decide) (by first | exact Nat.le_refl _ | decide)
          · refine lv_aload_n F.x F.b dX1_readPass_126 rfl (lv_at hl 2 rfl) ?_
            refine m_geta F I 4 (by decide) q1159 dX1_readPass_127 ?_
            refine lv_aload_n F.x F.b dX1_readPass_130 rfl (lv_at hl 2 rfl) ?_
            refine m_get (v := nI (b + ((23 + 6 * pp) + 1))) F I 14 (by decide) rfl q1169 dX1_readPass_131 ?_
            refine W.val (y := nI (b + (24 + 6 * pp))) (by exact congrArg nI (by omega)) ?_
            refine m_ld (v := ((S.2 4) (b + (24 + 6 * pp)))) F I 4 (by decide) (show b + (24 + 6 * pp) < 240 by omega) rfl dX1_readPass_134 ?_
            refine lv_bipush (v := nI (48)) F.x F.b dX1_readPass_135 (by decide) ?_
            refine lv_isub (x := ((S.2 4) (b + (24 + 6 * pp)))) (y := 48) F.x F.b dX1_readPass_137 ?_
            refine lv_aload_n F.x F.b dX1_readPass_138 rfl (lv_at hl 2 rfl) ?_
            refine m_geta F I 18 (by decide) q1173 dX1_readPass_139 ?_
            refine lv_iload_n F.x F.b dX1_readPass_142 rfl (lv_at hl 1 rfl) ?_
            refine lv_iconst (v := nI (1)) F.x F.b dX1_readPass_143 (by decide) ?_
            refine n_iadd F dX1_readPass_144 ?_
            refine m_ld (v := nI (y101)) F I 18 (by decide) (show ((5 * pp) + 1) < 30 by omega) (by exact pk_us) dX1_readPass_145 ?_
            refine lv_icmp_ne (x := (((S.2 4) (b + (24 + 6 * pp))) - 48)) (y := (nI (y101))) (tgt := 151) F.x F.b dX1_readPass_146 (by decide) (fun c_146 => ?_) (fun c_146 => ?_)
            · refine lv_aload_n F.x F.b dX1_readPass_151 rfl (lv_at hl 2 rfl) ?_
              refine m_geta F I 18 (by decide) q1173 dX1_readPass_152 ?_
              refine lv_iload_n F.x F.b dX1_readPass_155 rfl (lv_at hl 1 rfl) ?_
              refine lv_iconst (v := nI (2)) F.x F.b dX1_readPass_156 (by decide) ?_
              refine n_iadd F dX1_readPass_157 ?_
              refine lv_aload_n F.x F.b dX1_readPass_158 rfl (lv_at hl 2 rfl) ?_
              refine lv_iload_n F.x F.b dX1_readPass_159 rfl (lv_at hl 3 rfl) ?_
              refine lv_iconst (v := nI (0)) F.x F.b dX1_readPass_160 (by decide) ?_
              refine lv_iconst (v := nI (2)) F.x F.b dX1_readPass_161 (by decide) ?_
              refine g_calli I (g_runV (n := 3) (ci := 0) (q0 := 0) (As := [.int (nI (en)), .int (nI (0)), .int (nI (2))]) (rest := [.int (nI (((5 * pp) + 2))), .ref (q 18)]) F I (mt_digit l G o q ((va_up (va_up S.1 14 ((nI (b + (23 + 6 * pp))))) 14 (nI (b + ((23 + 6 * pp) + 1))), va_up (va_up S.2 18 (upd (S.2 18) ((5 * pp)) (nI (1)))) 18 (upd (upd (S.2 18) ((5 * pp)) (nI (1))) (((5 * pp) + 1)) (nI (y101))))) (en) (0) (2) b (24 + 6 * pp) n (by omega) (by omega) (by first | exact hat | exact congrArg nI (by omega)) (by omega) (by omega) (by omega) _) q1272 q1274 qs30 q56 q1275 hd_mt_digit ⟨Nat.le_of_ble_eq_true rfl, Nat.le_of_ble_eq_true rfl⟩ rfl rfl rfl rfl hl.1 rfl (lv_room (Nat.le_of_ble_eq_true rfl)) dX1_readPass_162 ⟨by first | exact Nat.le_refl _ | decide, by first | exact Nat.le_refl _ | decide⟩) (fun r Z162 H locs hp I => ?_)
              rcases hp with ⟨y162, hl162, hh162, hn162, hw162, he162, rfl, rfl⟩ | ⟨hw162, rfl, rfl⟩
              · skip
                refine m_st F I 18 (by decide) (show ((5 * pp) + 2) < 30 by omega) dX1_readPass_165 (fun H locs (I : Iw G A s (mW G o q (va_up (va_up (va_up S.1 14 ((nI (b + (23 + 6 * pp))))) 14 (nI (b + ((23 + 6 * pp) + 1)))) 14 (nI (b + ((24 + 6 * pp) + 1))), va_up (va_up (va_up S.2 18 (upd (S.2 18) ((5 * pp)) (nI (1)))) 18 (upd (upd (S.2 18) ((5 * pp)) (nI (1))) (((5 * pp) + 1)) (nI (y101)))) 18 (upd (upd (upd (S.2 18) ((5 * pp)) (nI (1))) (((5 * pp) + 1)) (nI (y101))) (((5 * pp) + 2)) (nI (y162))))) H locs) => ?_)
                refine lv_aload_n F.x F.b dX1_readPass_166 rfl (lv_at hl 2 rfl) ?_
                refine m_geta F I 18 (by decide) q1173 dX1_readPass_167 ?_
                refine lv_iload_n F.x F.b dX1_readPass_170 rfl (lv_at hl 1 rfl) ?_
                refine lv_iconst (v := nI (2)) F.x F.b dX1_readPass_171 (by decide) ?_
                refine n_iadd F dX1_readPass_172 ?_
                refine m_ld (v := nI (y162)) F I 18 (by decide) (show ((5 * pp) + 2) < 30 by omega) (by exact pk_us) dX1_readPass_173 ?_
                have st2 : stp (fT S b) n (24 + 6 * pp) := ⟨hn162, by omega, by rw [chk_p3, Bool.and_eq_true]; refine ⟨hw162, ?_⟩; rw [Bool.not_eq_true', decide_eq_false_iff_not]; intro z9; exact c_146 (by rw [show S.2 4 (b + (24 + 6 * pp)) = nI (48 + y101) from z9.trans he101, show (48 : Int32) = nI 48 from rfl, pk_sub (by omega), show 48 + y101 - 48 = y101 by omega])⟩
                refine lv_bipush (v := (-9)) F.x F.b dX1_readPass_174 (by decide) ?_
                refine lv_icmp_ne (x := (nI (y162))) (y := (-9)) (tgt := 181) F.x F.b dX1_readPass_176 (by decide) (fun c_176 => ?_) (fun c_176 => absurd c_176 (by first | decide | exact nI_n9 _ (by omega)))
                refine lv_aload_n F.x F.b dX1_readPass_181 rfl (lv_at hl 2 rfl) ?_
                refine m_geta F I 18 (by decide) q1173 dX1_readPass_182 ?_
                refine lv_iload_n F.x F.b dX1_readPass_185 rfl (lv_at hl 1 rfl) ?_
                refine lv_iconst (v := nI (3)) F.x F.b dX1_readPass_186 (by decide) ?_
                refine n_iadd F dX1_readPass_187 ?_
                refine lv_aload_n F.x F.b dX1_readPass_188 rfl (lv_at hl 2 rfl) ?_
                refine lv_iload_n F.x F.b dX1_readPass_189 rfl (lv_at hl 3 rfl) ?_
                refine lv_iconst (v := nI (1)) F.x F.b dX1_readPass_190 (by decide) ?_
                refine lv_iconst (v := nI (3)) F.x F.b dX1_readPass_191 (by decide) ?_
                refine g_calli I (g_runV (n := 3) (ci := 0) (q0 := 0) (As := [.int (nI (en)), .int (nI (1)), .int (nI (3))]) (rest := [.int (nI (((5 * pp) + 3))), .ref (q 18)]) F I (mt_digit l G o q ((va_up (va_up (va_up S.1 14 ((nI (b + (23 + 6 * pp))))) 14 (nI (b + ((23 + 6 * pp) + 1)))) 14 (nI (b + ((24 + 6 * pp) + 1))), va_up (va_up (va_up S.2 18 (upd (S.2 18) ((5 * pp)) (nI (1)))) 18 (upd (upd (S.2 18) ((5 * pp)) (nI (1))) (((5 * pp) + 1)) (nI (y101)))) 18 (upd (upd (upd (S.2 18) ((5 * pp)) (nI (1))) (((5 * pp) + 1)) (nI (y101))) (((5 * pp) + 2)) (nI (y162))))) (en) (1) (3) b (25 + 6 * pp) n (by omega) (by omega) (by first | exact hat | exact congrArg nI (by omega)) (by omega) (by omega) (by omega) _) q1272 q1274 qs30 q56 q1275 hd_mt_digit ⟨Nat.le_of_ble_eq_true rfl, Nat.le_of_ble_eq_true rfl⟩ rfl rfl rfl rfl hl.1 rfl (lv_room (Nat.le_of_ble_eq_true rfl)) dX1_readPass_192 ⟨by first | exact Nat.le_refl _ | decide, by first | exact Nat.le_refl _ | decide⟩) (fun r Z192 H locs hp I => ?_)
                rcases hp with ⟨y192, hl192, hh192, hn192, hw192, he192, rfl, rfl⟩ | ⟨hw192, rfl, rfl⟩
                · skip
                  refine m_st F I 18 (by decide) (show ((5 * pp) + 3) < 30 by omega) dX1_readPass_195 (fun H locs (I : Iw G A s (mW G o q (va_up (va_up (va_up (va_up S.1 14 ((nI (b + (23 + 6 * pp))))) 14 (nI (b + ((23 + 6 * pp) + 1)))) 14 (nI (b + ((24 + 6 * pp) + 1)))) 14 (nI (b + ((25 + 6 * pp) + 1))), va_up (va_up (va_up (va_up S.2 18 (upd (S.2 18) ((5 * pp)) (nI (1)))) 18 (upd (upd (S.2 18) ((5 * pp)) (nI (1))) (((5 * pp) + 1)) (nI (y101)))) 18 (upd (upd (upd (S.2 18) ((5 * pp)) (nI (1))) (((5 * pp) + 1)) (nI (y101))) (((5 * pp) + 2)) (nI (y162)))) 18 (upd (upd (upd (upd (S.2 18) ((5 * pp)) (nI (1))) (((5 * pp) + 1)) (nI (y101))) (((5 * pp) + 2)) (nI (y162))) (((5 * pp) + 3)) (nI (y192))))) H locs) => ?_)
                  refine lv_aload_n F.x F.b dX1_readPass_196 rfl (lv_at hl 2 rfl) ?_
                  refine m_geta F I 18 (by decide) q1173 dX1_readPass_197 ?_
                  refine lv_iload_n F.x F.b dX1_readPass_200 rfl (lv_at hl 1 rfl) ?_
                  refine lv_iconst (v := nI (3)) F.x F.b dX1_readPass_201 (by decide) ?_
                  refine n_iadd F dX1_readPass_202 ?_
                  refine m_ld (v := nI (y192)) F I 18 (by decide) (show ((5 * pp) + 3) < 30 by omega) (by exact pk_us) dX1_readPass_203 ?_
                  have st3 : stp (fT S b) n (25 + 6 * pp) := ⟨hn192, by omega, by rw [chk_p4]; exact hw192⟩
                  refine lv_bipush (v := (-9)) F.x F.b dX1_readPass_204 (by decide) ?_
                  refine lv_icmp_ne (x := (nI (y192))) (y := (-9)) (tgt := 211) F.x F.b dX1_readPass_206 (by decide) (fun c_206 => ?_) (fun c_206 => absurd c_206 (by first | decide | exact nI_n9 _ (by omega)))
                  refine lv_aload_n F.x F.b dX1_readPass_211 rfl (lv_at hl 2 rfl) ?_
                  refine m_geta F I 18 (by decide) q1173 dX1_readPass_212 ?_
                  refine lv_iload_n F.x F.b dX1_readPass_215 rfl (lv_at hl 1 rfl) ?_
                  refine lv_iconst (v := nI (4)) F.x F.b dX1_readPass_216 (by decide) ?_
                  refine n_iadd F dX1_readPass_217 ?_
                  refine lv_aload_n F.x F.b dX1_readPass_218 rfl (lv_at hl 2 rfl) ?_
                  refine lv_iload_n F.x F.b dX1_readPass_219 rfl (lv_at hl 3 rfl) ?_
                  refine lv_iconst (v := nI (0)) F.x F.b dX1_readPass_220 (by decide) ?_
                  refine lv_bipush (v := nI (9)) F.x F.b dX1_readPass_221 (by decide) ?_
                  refine g_calli I (g_runV (n := 3) (ci := 0) (q0 := 0) (As := [.int (nI (en)), .int (nI (0)), .int (nI (9))]) (rest := [.int (nI (((5 * pp) + 4))), .ref (q 18)]) F I (mt_digit l G o q ((va_up (va_up (va_up (va_up S.1 14 ((nI (b + (23 + 6 * pp))))) 14 (nI (b + ((23 + 6 * pp) + 1)))) 14 (nI (b + ((24 + 6 * pp) + 1)))) 14 (nI (b + ((25 + 6 * pp) + 1))), va_up (va_up (va_up (va_up S.2 18 (upd (S.2 18) ((5 * pp)) (nI (1)))) 18 (upd (upd (S.2 18) ((5 * pp)) (nI (1))) (((5 * pp) + 1)) (nI (y101)))) 18 (upd (upd (upd (S.2 18) ((5 * pp)) (nI (1))) (((5 * pp) + 1)) (nI (y101))) (((5 * pp) + 2)) (nI (y162)))) 18 (upd (upd (upd (upd (S.2 18) ((5 * pp)) (nI (1))) (((5 * pp) + 1)) (nI (y101))) (((5 * pp) + 2)) (nI (y162))) (((5 * pp) + 3)) (nI (y192))))) (en) (0) (9) b (26 + 6 * pp) n (by omega) (by omega) (by first | exact hat | exact congrArg nI (by omega)) (by omega) (by omega) (by omega) _) q1272 q1274 qs30 q56 q1275 hd_mt_digit ⟨Nat.le_of_ble_eq_true rfl, Nat.le_of_ble_eq_true rfl⟩ rfl rfl rfl rfl hl.1 rfl (lv_room (Nat.le_of_ble_eq_true rfl)) dX1_readPass_223 ⟨by first | exact Nat.le_refl _ | decide, by first | exact Nat.le_refl _ | decide⟩) (fun r Z223 H locs hp I => ?_)
                  rcases hp with ⟨y223, hl223, hh223, hn223, hw223, he223, rfl, rfl⟩ | ⟨hw223, rfl, rfl⟩
                  · skip
                    refine m_st F I 18 (by decide) (show ((5 * pp) + 4) < 30 by omega) dX1_readPass_226 (fun H locs (I : Iw G A s (mW G o q (va_up (va_up (va_up (va_up (va_up S.1 14 ((nI (b + (23 + 6 * pp))))) 14 (nI (b + ((23 + 6 * pp) + 1)))) 14 (nI (b + ((24 + 6 * pp) + 1)))) 14 (nI (b + ((25 + 6 * pp) + 1)))) 14 (nI (b + ((26 + 6 * pp) + 1))), va_up (va_up (va_up (va_up (va_up S.2 18 (upd (S.2 18) ((5 * pp)) (nI (1)))) 18 (upd (upd (S.2 18) ((5 * pp)) (nI (1))) (((5 * pp) + 1)) (nI (y101)))) 18 (upd (upd (upd (S.2 18) ((5 * pp)) (nI (1))) (((5 * pp) + 1)) (nI (y101))) (((5 * pp) + 2)) (nI (y162)))) 18 (upd (upd (upd (upd (S.2 18) ((5 * pp)) (nI (1))) (((5 * pp) + 1)) (nI (y101))) (((5 * pp) + 2)) (nI (y162))) (((5 * pp) + 3)) (nI (y192)))) 18 (upd (upd (upd (upd (upd (S.2 18) ((5 * pp)) (nI (1))) (((5 * pp) + 1)) (nI (y101))) (((5 * pp) + 2)) (nI (y162))) (((5 * pp) + 3)) (nI (y192))) (((5 * pp) + 4)) (nI (y223))))) H locs) => ?_)
                    refine lv_aload_n F.x F.b dX1_readPass_227 rfl (lv_at hl 2 rfl) ?_
                    refine lv_dup F.x F.b dX1_readPass_228 rfl ?_
                    refine m_get (v := (S.1 15)) F I 15 (by decide) rfl q1170 dX1_readPass_229 ?_
                    refine W.val (y := nI (pp)) (by exact hrm) ?_
                    refine lv_iconst (v := nI (1)) F.x F.b dX1_readPass_232 (by decide) ?_
                    refine n_iadd F dX1_readPass_233 ?_
                    refine W.val (y := nI ((pp + 1))) (by rfl) ?_
                    refine m_put F I 15 (by decide) q1170 dX1_readPass_234 (fun H locs (I : Iw G A s (mW G o q (va_up (va_up (va_up (va_up (va_up (va_up S.1 14 ((nI (b + (23 + 6 * pp))))) 14 (nI (b + ((23 + 6 * pp) + 1)))) 14 (nI (b + ((24 + 6 * pp) + 1)))) 14 (nI (b + ((25 + 6 * pp) + 1)))) 14 (nI (b + ((26 + 6 * pp) + 1)))) 15 ((nI ((pp + 1)))), va_up (va_up (va_up (va_up (va_up S.2 18 (upd (S.2 18) ((5 * pp)) (nI (1)))) 18 (upd (upd (S.2 18) ((5 * pp)) (nI (1))) (((5 * pp) + 1)) (nI (y101)))) 18 (upd (upd (upd (S.2 18) ((5 * pp)) (nI (1))) (((5 * pp) + 1)) (nI (y101))) (((5 * pp) + 2)) (nI (y162)))) 18 (upd (upd (upd (upd (S.2 18) ((5 * pp)) (nI (1))) (((5 * pp) + 1)) (nI (y101))) (((5 * pp) + 2)) (nI (y162))) (((5 * pp) + 3)) (nI (y192)))) 18 (upd (upd (upd (upd (upd (S.2 18) ((5 * pp)) (nI (1))) (((5 * pp) + 1)) (nI (y101))) (((5 * pp) + 2)) (nI (y162))) (((5 * pp) + 3)) (nI (y192))) (((5 * pp) + 4)) (nI (y223))))) H locs) => ?_)
                    refine lv_aload_n F.x F.b dX1_readPass_237 rfl (lv_at hl 2 rfl) ?_
                    refine m_geta F I 18 (by decide) q1173 dX1_readPass_238 ?_
                    refine lv_iload_n F.x F.b dX1_readPass_241 rfl (lv_at hl 1 rfl) ?_
                    refine lv_iconst (v := nI (4)) F.x F.b dX1_readPass_242 (by decide) ?_
                    refine n_iadd F dX1_readPass_243 ?_
                    refine m_ld (v := nI (y223)) F I 18 (by decide) (show ((5 * pp) + 4) < 30 by omega) (by exact pk_us) dX1_readPass_244 ?_
                    have st4 : stp (fT S b) n (26 + 6 * pp) := ⟨hn223, by omega, by rw [chk_p5]; exact hw223⟩
                    refine lv_bipush (v := (-9)) F.x F.b dX1_readPass_245 (by decide) ?_
                    refine lv_icmp_eq (x := (nI (y223))) (y := (-9)) (tgt := 254) F.x F.b dX1_readPass_247 (by decide) (fun c_247 => absurd c_247 (by exact nI_n9 _ (by omega))) (fun c_247 => ?_)
                    refine lv_iconst (v := nI (1)) F.x F.b dX1_readPass_250 (by decide) ?_
                    refine lv_goto (tgt := 255) F.x F.b dX1_readPass_251 (by decide) ?_
                    exact g_zret (u := (va_up (va_up (va_up (va_up (va_up (va_up S.1 14 ((nI (b + (23 + 6 * pp))))) 14 (nI (b + ((23 + 6 * pp) + 1)))) 14 (nI (b + ((24 + 6 * pp) + 1)))) 14 (nI (b + ((25 + 6 * pp) + 1)))) 14 (nI (b + ((26 + 6 * pp) + 1)))) 15 ((nI ((pp + 1)))), va_up (va_up (va_up (va_up (va_up S.2 18 (upd (S.2 18) ((5 * pp)) (nI (1)))) 18 (upd (upd (S.2 18) ((5 * pp)) (nI (1))) (((5 * pp) + 1)) (nI (y101)))) 18 (upd (upd (upd (S.2 18) ((5 * pp)) (nI (1))) (((5 * pp) + 1)) (nI (y101))) (((5 * pp) + 2)) (nI (y162)))) 18 (upd (upd (upd (upd (S.2 18) ((5 * pp)) (nI (1))) (((5 * pp) + 1)) (nI (y101))) (((5 * pp) + 2)) (nI (y162))) (((5 * pp) + 3)) (nI (y192)))) 18 (upd (upd (upd (upd (upd (S.2 18) ((5 * pp)) (nI (1))) (((5 * pp) + 1)) (nI (y101))) (((5 * pp) + 2)) (nI (y162))) (((5 * pp) + 3)) (nI (y192))) (((5 * pp) + 4)) (nI (y223))))) F I (by first | exact bI_01 _ | exact Or.inl rfl | exact Or.inr rfl) (by exact Or.inl ⟨fun x h1 h2 => by rcases (show x = 22 + 6 * pp ∨ x = 23 + 6 * pp ∨ x = 24 + 6 * pp ∨ x = 25 + 6 * pp ∨ x = 26 + 6 * pp by omega) with rfl | rfl | rfl | rfl | rfl <;> assumption, rfl, congrArg nI (by omega), rfl, rfl, rfl, by rw [hkd, dv_y (f := fT S b) he101 (by omega), dv_y (f := fT S b) he162 (by omega), dv_y (f := fT S b) he192 (by omega), dv_y (f := fT S b) he223 (by omega)]; rfl, by rw [hkd]; decide, by rw [dv_y (f := fT S b) he101 (by omega)]; omega, by rw [dv_y (f := fT S b) he162 (by omega)]; omega, by rw [dv_y (f := fT S b) he192 (by omega)]; omega, by rw [dv_y (f := fT S b) he192 (by omega)]; omega, by rw [dv_y (f := fT S b) he223 (by omega)]; omega, by exact ⟨rfl, rfl, rfl, rfl, rfl, rfl, rfl, rfl, rfl, rfl, rfl, rfl, rfl, rfl, rfl, rfl, rfl⟩⟩) dX1_readPass_255 (by first | exact Nat.le_refl _ | decide) (by first | exact Nat.le_refl _ | decide)
                  · skip
                    refine m_st F I 18 (by decide) (show ((5 * pp) + 4) < 30 by omega) dX1_readPass_226 (fun H locs (I : Iw G A s (mW G o q (va_up (va_up (va_up (va_up S.1 14 ((nI (b + (23 + 6 * pp))))) 14 (nI (b + ((23 + 6 * pp) + 1)))) 14 (nI (b + ((24 + 6 * pp) + 1)))) 14 (nI (b + ((25 + 6 * pp) + 1))), va_up (va_up (va_up (va_up (va_up S.2 18 (upd (S.2 18) ((5 * pp)) (nI (1)))) 18 (upd (upd (S.2 18) ((5 * pp)) (nI (1))) (((5 * pp) + 1)) (nI (y101)))) 18 (upd (upd (upd (S.2 18) ((5 * pp)) (nI (1))) (((5 * pp) + 1)) (nI (y101))) (((5 * pp) + 2)) (nI (y162)))) 18 (upd (upd (upd (upd (S.2 18) ((5 * pp)) (nI (1))) (((5 * pp) + 1)) (nI (y101))) (((5 * pp) + 2)) (nI (y162))) (((5 * pp) + 3)) (nI (y192)))) 18 (upd (upd (upd (upd (upd (S.2 18) ((5 * pp)) (nI (1))) (((5 * pp) + 1)) (nI (y101))) (((5 * pp) + 2)) (nI (y162))) (((5 * pp) + 3)) (nI (y192))) (((5 * pp) + 4)) ((-9))))) H locs) => ?_)
                    refine lv_aload_n F.x F.b dX1_readPass_227 rfl (lv_at hl 2 rfl) ?_
                    refine lv_dup F.x F.b dX1_readPass_228 rfl ?_
                    refine m_get (v := (S.1 15)) F I 15 (by decide) rfl q1170 dX1_readPass_229 ?_
                    refine W.val (y := nI (pp)) (by exact hrm) ?_
                    refine lv_iconst (v := nI (1)) F.x F.b dX1_readPass_232 (by decide) ?_
                    refine n_iadd F dX1_readPass_233 ?_
                    refine W.val (y := nI ((pp + 1))) (by rfl) ?_
                    refine m_put F I 15 (by decide) q1170 dX1_readPass_234 (fun H locs (I : Iw G A s (mW G o q (va_up (va_up (va_up (va_up (va_up S.1 14 ((nI (b + (23 + 6 * pp))))) 14 (nI (b + ((23 + 6 * pp) + 1)))) 14 (nI (b + ((24 + 6 * pp) + 1)))) 14 (nI (b + ((25 + 6 * pp) + 1)))) 15 ((nI ((pp + 1)))), va_up (va_up (va_up (va_up (va_up S.2 18 (upd (S.2 18) ((5 * pp)) (nI (1)))) 18 (upd (upd (S.2 18) ((5 * pp)) (nI (1))) (((5 * pp) + 1)) (nI (y101)))) 18 (upd (upd (upd (S.2 18) ((5 * pp)) (nI (1))) (((5 * pp) + 1)) (nI (y101))) (((5 * pp) + 2)) (nI (y162)))) 18 (upd (upd (upd (upd (S.2 18) ((5 * pp)) (nI (1))) (((5 * pp) + 1)) (nI (y101))) (((5 * pp) + 2)) (nI (y162))) (((5 * pp) + 3)) (nI (y192)))) 18 (upd (upd (upd (upd (upd (S.2 18) ((5 * pp)) (nI (1))) (((5 * pp) + 1)) (nI (y101))) (((5 * pp) + 2)) (nI (y162))) (((5 * pp) + 3)) (nI (y192))) (((5 * pp) + 4)) ((-9))))) H locs) => ?_)
                    refine lv_aload_n F.x F.b dX1_readPass_237 rfl (lv_at hl 2 rfl) ?_
                    refine m_geta F I 18 (by decide) q1173 dX1_readPass_238 ?_
                    refine lv_iload_n F.x F.b dX1_readPass_241 rfl (lv_at hl 1 rfl) ?_
                    refine lv_iconst (v := nI (4)) F.x F.b dX1_readPass_242 (by decide) ?_
                    refine n_iadd F dX1_readPass_243 ?_
                    refine m_ld (v := (-9)) F I 18 (by decide) (show ((5 * pp) + 4) < 30 by omega) (by exact pk_us) dX1_readPass_244 ?_
                    refine lv_bipush (v := (-9)) F.x F.b dX1_readPass_245 (by decide) ?_
                    refine lv_icmp_eq (x := (-9)) (y := (-9)) (tgt := 254) F.x F.b dX1_readPass_247 (by decide) (fun c_247 => ?_) (fun c_247 => absurd c_247 (by exact fun z9 => z9 rfl))
                    refine lv_iconst (v := nI (0)) F.x F.b dX1_readPass_254 (by decide) ?_
                    exact g_zret (u := (va_up (va_up (va_up (va_up (va_up S.1 14 ((nI (b + (23 + 6 * pp))))) 14 (nI (b + ((23 + 6 * pp) + 1)))) 14 (nI (b + ((24 + 6 * pp) + 1)))) 14 (nI (b + ((25 + 6 * pp) + 1)))) 15 ((nI ((pp + 1)))), va_up (va_up (va_up (va_up (va_up S.2 18 (upd (S.2 18) ((5 * pp)) (nI (1)))) 18 (upd (upd (S.2 18) ((5 * pp)) (nI (1))) (((5 * pp) + 1)) (nI (y101)))) 18 (upd (upd (upd (S.2 18) ((5 * pp)) (nI (1))) (((5 * pp) + 1)) (nI (y101))) (((5 * pp) + 2)) (nI (y162)))) 18 (upd (upd (upd (upd (S.2 18) ((5 * pp)) (nI (1))) (((5 * pp) + 1)) (nI (y101))) (((5 * pp) + 2)) (nI (y162))) (((5 * pp) + 3)) (nI (y192)))) 18 (upd (upd (upd (upd (upd (S.2 18) ((5 * pp)) (nI (1))) (((5 * pp) + 1)) (nI (y101))) (((5 * pp) + 2)) (nI (y162))) (((5 * pp) + 3)) (nI (y192))) (((5 * pp) + 4)) ((-9))))) F I (by first | exact bI_01 _ | exact Or.inl rfl | exact Or.inr rfl) (by exact Or.inr ⟨4, by omega, fun x h1 h2 => by rcases (show x = 22 + 6 * pp ∨ x = 23 + 6 * pp ∨ x = 24 + 6 * pp ∨ x = 25 + 6 * pp by omega) with rfl | rfl | rfl | rfl <;> assumption, fun z9 => by have h9 := z9.2.2; rw [show 22 + 6 * pp + 4 = 26 + 6 * pp by omega, chk_p5] at h9; exact hw223 ⟨by have := z9.1; omega, h9⟩, rfl, congrArg nI (by omega), by exact ⟨rfl, rfl, rfl, rfl, rfl, rfl, rfl, rfl, rfl, rfl, rfl, rfl, rfl, rfl, rfl, rfl, rfl⟩⟩) dX1_readPass_255 (by first | exact Nat.le_refl _ | decide) (by first | exact Nat.le_refl _ | decide)
                · skip
                  refine m_st F I 18 (by decide) (show ((5 * pp) + 3) < 30 by omega) dX1_readPass_195 (fun H locs (I : Iw G A s (mW G o q (va_up (va_up (va_up S.1 14 ((nI (b + (23 + 6 * pp))))) 14 (nI (b + ((23 + 6 * pp) + 1)))) 14 (nI (b + ((24 + 6 * pp) + 1))), va_up (va_up (va_up (va_up S.2 18 (upd (S.2 18) ((5 * pp)) (nI (1)))) 18 (upd (upd (S.2 18) ((5 * pp)) (nI (1))) (((5 * pp) + 1)) (nI (y101)))) 18 (upd (upd (upd (S.2 18) ((5 * pp)) (nI (1))) (((5 * pp) + 1)) (nI (y101))) (((5 * pp) + 2)) (nI (y162)))) 18 (upd (upd (upd (upd (S.2 18) ((5 * pp)) (nI (1))) (((5 * pp) + 1)) (nI (y101))) (((5 * pp) + 2)) (nI (y162))) (((5 * pp) + 3)) ((-9))))) H locs) => ?_)
                  refine lv_aload_n F.x F.b dX1_readPass_196 rfl (lv_at hl 2 rfl) ?_
                  refine m_geta F I 18 (by decide) q1173 dX1_readPass_197 ?_
                  refine lv_iload_n F.x F.b dX1_readPass_200 rfl (lv_at hl 1 rfl) ?_
                  refine lv_iconst (v := nI (3)) F.x F.b dX1_readPass_201 (by decide) ?_
                  refine n_iadd F dX1_readPass_202 ?_
                  refine m_ld (v := (-9)) F I 18 (by decide) (show ((5 * pp) + 3) < 30 by omega) (by exact pk_us) dX1_readPass_203 ?_
                  refine lv_bipush (v := (-9)) F.x F.b dX1_readPass_204 (by decide) ?_
                  refine lv_icmp_ne (x := (-9)) (y := (-9)) (tgt := 211) F.x F.b dX1_readPass_206 (by decide) (fun c_206 => absurd c_206 (by exact fun z9 => z9 rfl)) (fun c_206 => ?_)
                  refine lv_iconst (v := nI (0)) F.x F.b dX1_readPass_209 (by decide) ?_
                  exact g_zret (u := (va_up (va_up (va_up S.1 14 ((nI (b + (23 + 6 * pp))))) 14 (nI (b + ((23 + 6 * pp) + 1)))) 14 (nI (b + ((24 + 6 * pp) + 1))), va_up (va_up (va_up (va_up S.2 18 (upd (S.2 18) ((5 * pp)) (nI (1)))) 18 (upd (upd (S.2 18) ((5 * pp)) (nI (1))) (((5 * pp) + 1)) (nI (y101)))) 18 (upd (upd (upd (S.2 18) ((5 * pp)) (nI (1))) (((5 * pp) + 1)) (nI (y101))) (((5 * pp) + 2)) (nI (y162)))) 18 (upd (upd (upd (upd (S.2 18) ((5 * pp)) (nI (1))) (((5 * pp) + 1)) (nI (y101))) (((5 * pp) + 2)) (nI (y162))) (((5 * pp) + 3)) ((-9))))) F I (by first | exact bI_01 _ | exact Or.inl rfl | exact Or.inr rfl) (by exact Or.inr ⟨3, by omega, fun x h1 h2 => by rcases (show x = 22 + 6 * pp ∨ x = 23 + 6 * pp ∨ x = 24 + 6 * pp by omega) with rfl | rfl | rfl <;> assumption, fun z9 => by have h9 := z9.2.2; rw [show 22 + 6 * pp + 3 = 25 + 6 * pp by omega, chk_p4] at h9; exact hw192 ⟨by have := z9.1; omega, h9⟩, rfl, congrArg nI (by omega), by exact ⟨rfl, rfl, rfl, rfl, rfl, rfl, rfl, rfl, rfl, rfl, rfl, rfl, rfl, rfl, rfl, rfl, rfl⟩⟩) dX1_readPass_210 (by first | exact Nat.le_refl _ | decide) (by first | exact Nat.le_refl _ | decide)
              · skip
                refine m_st F I 18 (by decide) (show ((5 * pp) + 2) < 30 by omega) dX1_readPass_165 (fun H locs (I : Iw G A s (mW G o q (va_up (va_up S.1 14 ((nI (b + (23 + 6 * pp))))) 14 (nI (b + ((23 + 6 * pp) + 1))), va_up (va_up (va_up S.2 18 (upd (S.2 18) ((5 * pp)) (nI (1)))) 18 (upd (upd (S.2 18) ((5 * pp)) (nI (1))) (((5 * pp) + 1)) (nI (y101)))) 18 (upd (upd (upd (S.2 18) ((5 * pp)) (nI (1))) (((5 * pp) + 1)) (nI (y101))) (((5 * pp) + 2)) ((-9))))) H locs) => ?_)
                refine lv_aload_n F.x F.b dX1_readPass_166 rfl (lv_at hl 2 rfl) ?_
                refine m_geta F I 18 (by decide) q1173 dX1_readPass_167 ?_
                refine lv_iload_n F.x F.b dX1_readPass_170 rfl (lv_at hl 1 rfl) ?_
                refine lv_iconst (v := nI (2)) F.x F.b dX1_readPass_171 (by decide) ?_
                refine n_iadd F dX1_readPass_172 ?_
                refine m_ld (v := (-9)) F I 18 (by decide) (show ((5 * pp) + 2) < 30 by omega) (by exact pk_us) dX1_readPass_173 ?_
                refine lv_bipush (v := (-9)) F.x F.b dX1_readPass_174 (by decide) ?_
                refine lv_icmp_ne (x := (-9)) (y := (-9)) (tgt := 181) F.x F.b dX1_readPass_176 (by decide) (fun c_176 => absurd c_176 (by exact fun z9 => z9 rfl)) (fun c_176 => ?_)
                refine lv_iconst (v := nI (0)) F.x F.b dX1_readPass_179 (by decide) ?_
                exact g_zret (u := (va_up (va_up S.1 14 ((nI (b + (23 + 6 * pp))))) 14 (nI (b + ((23 + 6 * pp) + 1))), va_up (va_up (va_up S.2 18 (upd (S.2 18) ((5 * pp)) (nI (1)))) 18 (upd (upd (S.2 18) ((5 * pp)) (nI (1))) (((5 * pp) + 1)) (nI (y101)))) 18 (upd (upd (upd (S.2 18) ((5 * pp)) (nI (1))) (((5 * pp) + 1)) (nI (y101))) (((5 * pp) + 2)) ((-9))))) F I (by first | exact bI_01 _ | exact Or.inl rfl | exact Or.inr rfl) (by exact Or.inr ⟨2, by omega, fun x h1 h2 => by rcases (show x = 22 + 6 * pp ∨ x = 23 + 6 * pp by omega) with rfl | rfl <;> assumption, fun z9 => by have h9 := z9.2.2; rw [show 22 + 6 * pp + 2 = 24 + 6 * pp by omega, chk_p3] at h9; exact hw162 ⟨by have := z9.1; omega, by rw [Bool.and_eq_true] at h9; exact h9.1⟩, rfl, congrArg nI (by omega), by exact ⟨rfl, rfl, rfl, rfl, rfl, rfl, rfl, rfl, rfl, rfl, rfl, rfl, rfl, rfl, rfl, rfl, rfl⟩⟩) dX1_readPass_180 (by first | exact Nat.le_refl _ | decide) (by first | exact Nat.le_refl _ | decide)
            · refine lv_iconst (v := nI (0)) F.x F.b dX1_readPass_149 (by decide) ?_
              exact g_zret (u := (va_up (va_up S.1 14 ((nI (b + (23 + 6 * pp))))) 14 (nI (b + ((23 + 6 * pp) + 1))), va_up (va_up S.2 18 (upd (S.2 18) ((5 * pp)) (nI (1)))) 18 (upd (upd (S.2 18) ((5 * pp)) (nI (1))) (((5 * pp) + 1)) (nI (y101))))) F I (by first | exact bI_01 _ | exact Or.inl rfl | exact Or.inr rfl) (by exact Or.inr ⟨2, by omega, fun x h1 h2 => by rcases (show x = 22 + 6 * pp ∨ x = 23 + 6 * pp by omega) with rfl | rfl <;> assumption, fun z9 => by have h9 := z9.2.2; rw [show 22 + 6 * pp + 2 = 24 + 6 * pp by omega, chk_p3] at h9; exact absurd (n48_eq c_146) (by rw [Bool.and_eq_true] at h9; intro h8; have h7 := h9.2; rw [Bool.not_eq_true', decide_eq_false_iff_not] at h7; exact h7 (h8.trans he101.symm)), rfl, congrArg nI (by omega), by exact ⟨rfl, rfl, rfl, rfl, rfl, rfl, rfl, rfl, rfl, rfl, rfl, rfl, rfl, rfl, rfl, rfl, rfl⟩⟩) dX1_readPass_150 (by first | exact Nat.le_refl _ | decide) (by first | exact Nat.le_refl _ | decide)
        · skip
          refine m_st F I 18 (by decide) (show ((5 * pp) + 1) < 30 by omega) dX1_readPass_104 (fun H locs (I : Iw G A s (mW G o q (va_up S.1 14 ((nI (b + (23 + 6 * pp)))), va_up (va_up S.2 18 (upd (S.2 18) ((5 * pp)) (nI (1)))) 18 (upd (upd (S.2 18) ((5 * pp)) (nI (1))) (((5 * pp) + 1)) ((-9))))) H locs) => ?_)
          refine lv_aload_n F.x F.b dX1_readPass_105 rfl (lv_at hl 2 rfl) ?_
          refine m_geta F I 18 (by decide) q1173 dX1_readPass_106 ?_
          refine lv_iload_n F.x F.b dX1_readPass_109 rfl (lv_at hl 1 rfl) ?_
          refine lv_iconst (v := nI (1)) F.x F.b dX1_readPass_110 (by decide) ?_
          refine n_iadd F dX1_readPass_111 ?_
          refine m_ld (v := (-9)) F I 18 (by decide) (show ((5 * pp) + 1) < 30 by omega) (by exact pk_us) dX1_readPass_112 ?_
          refine lv_bipush (v := (-9)) F.x F.b dX1_readPass_113 (by decide) ?_
          refine lv_icmp_eq (x := (-9)) (y := (-9)) (tgt := 149) F.x F.b dX1_readPass_115 (by decide) (fun c_115 => ?_) (fun c_115 => absurd c_115 (by exact fun z9 => z9 rfl))
          refine lv_iconst (v := nI (0)) F.x F.b dX1_readPass_149 (by decide) ?_
          exact g_zret (u := (va_up S.1 14 ((nI (b + (23 + 6 * pp)))), va_up (va_up S.2 18 (upd (S.2 18) ((5 * pp)) (nI (1)))) 18 (upd (upd (S.2 18) ((5 * pp)) (nI (1))) (((5 * pp) + 1)) ((-9))))) F I (by first | exact bI_01 _ | exact Or.inl rfl | exact Or.inr rfl) (by exact Or.inr ⟨1, by omega, fun x h1 h2 => by rw [show x = 22 + 6 * pp by omega]; exact st0, fun z9 => by have h9 := z9.2.2; rw [show 22 + 6 * pp + 1 = 23 + 6 * pp by omega, chk_p2] at h9; exact hw101 ⟨by have := z9.1; omega, h9⟩, rfl, congrArg nI (by omega), by exact ⟨rfl, rfl, rfl, rfl, rfl, rfl, rfl, rfl, rfl, rfl, rfl, rfl, rfl, rfl, rfl, rfl, rfl⟩⟩) dX1_readPass_150 (by first | exact Nat.le_refl _ | decide) (by first | exact Nat.le_refl _ | decide)
    · refine lv_iconst (v := nI (0)) F.x F.b dX1_readPass_40 (by decide) ?_
      refine lv_goto (tgt := 66) F.x F.b dX1_readPass_41 (by decide) ?_
      refine m_st F I 18 (by decide) (show (5 * pp) < 30 by omega) dX1_readPass_66 (fun H locs (I : Iw G A s (mW G o q (S.1, va_up S.2 18 (upd (S.2 18) ((5 * pp)) (nI (0))))) H locs) => ?_)
      refine lv_aload_n F.x F.b dX1_readPass_67 rfl (lv_at hl 2 rfl) ?_
      refine m_geta F I 18 (by decide) q1173 dX1_readPass_68 ?_
      refine lv_iload_n F.x F.b dX1_readPass_71 rfl (lv_at hl 1 rfl) ?_
      refine m_ld (v := nI (0)) F I 18 (by decide) (show (5 * pp) < 30 by omega) (by exact pk_us) dX1_readPass_72 ?_
      refine lv_bipush (v := (-9)) F.x F.b dX1_readPass_73 (by decide) ?_
      refine lv_icmp_ne (x := 0) (y := (-9)) (tgt := 80) F.x F.b dX1_readPass_75 (by decide) (fun c_75 => ?_) (fun c_75 => absurd c_75 (by first | decide | exact nI_n9 _ (by omega)))
      have st0 : stp (fT S b) n (22 + 6 * pp) := ⟨by omega, by omega, p1_yes (Or.inl c_37)⟩
      have hkd : kdv (fT S b) (22 + 6 * pp) = 0 := kd_0 c_37
      refine lv_aload_n F.x F.b dX1_readPass_80 rfl (lv_at hl 2 rfl) ?_
      refine lv_dup F.x F.b dX1_readPass_81 rfl ?_
      refine m_get (v := (S.1 14)) F I 14 (by decide) rfl q1169 dX1_readPass_82 ?_
      refine W.val (y := nI (b + (22 + 6 * pp))) (by exact hat) ?_
      refine lv_iconst (v := nI (1)) F.x F.b dX1_readPass_85 (by decide) ?_
      refine n_iadd F dX1_readPass_86 ?_
      refine W.val (y := nI (b + (23 + 6 * pp))) (by exact congrArg nI (by omega)) ?_
      refine m_put F I 14 (by decide) q1169 dX1_readPass_87 (fun H locs (I : Iw G A s (mW G o q (va_up S.1 14 ((nI (b + (23 + 6 * pp)))), va_up S.2 18 (upd (S.2 18) ((5 * pp)) (nI (0))))) H locs) => ?_)
      refine lv_aload_n F.x F.b dX1_readPass_90 rfl (lv_at hl 2 rfl) ?_
      refine m_geta F I 18 (by decide) q1173 dX1_readPass_91 ?_
      refine lv_iload_n F.x F.b dX1_readPass_94 rfl (lv_at hl 1 rfl) ?_
      refine lv_iconst (v := nI (1)) F.x F.b dX1_readPass_95 (by decide) ?_
      refine n_iadd F dX1_readPass_96 ?_
      refine lv_aload_n F.x F.b dX1_readPass_97 rfl (lv_at hl 2 rfl) ?_
      refine lv_iload_n F.x F.b dX1_readPass_98 rfl (lv_at hl 3 rfl) ?_
      refine lv_iconst (v := nI (0)) F.x F.b dX1_readPass_99 (by decide) ?_
      refine lv_iconst (v := nI (2)) F.x F.b dX1_readPass_100 (by decide) ?_
      refine g_calli I (g_runV (n := 3) (ci := 0) (q0 := 0) (As := [.int (nI (en)), .int (nI (0)), .int (nI (2))]) (rest := [.int (nI (((5 * pp) + 1))), .ref (q 18)]) F I (mt_digit l G o q ((va_up S.1 14 ((nI (b + (23 + 6 * pp)))), va_up S.2 18 (upd (S.2 18) ((5 * pp)) (nI (0))))) (en) (0) (2) b (23 + 6 * pp) n (by omega) (by omega) (by first | exact hat | exact congrArg nI (by omega)) (by omega) (by omega) (by omega) _) q1272 q1274 qs30 q56 q1275 hd_mt_digit ⟨Nat.le_of_ble_eq_true rfl, Nat.le_of_ble_eq_true rfl⟩ rfl rfl rfl rfl hl.1 rfl (lv_room (Nat.le_of_ble_eq_true rfl)) dX1_readPass_101 ⟨by first | exact Nat.le_refl _ | decide, by first | exact Nat.le_refl _ | decide⟩) (fun r Z101 H locs hp I => ?_)
      rcases hp with ⟨y101, hl101, hh101, hn101, hw101, he101, rfl, rfl⟩ | ⟨hw101, rfl, rfl⟩
      · skip
        refine m_st F I 18 (by decide) (show ((5 * pp) + 1) < 30 by omega) dX1_readPass_104 (fun H locs (I : Iw G A s (mW G o q (va_up (va_up S.1 14 ((nI (b + (23 + 6 * pp))))) 14 (nI (b + ((23 + 6 * pp) + 1))), va_up (va_up S.2 18 (upd (S.2 18) ((5 * pp)) (nI (0)))) 18 (upd (upd (S.2 18) ((5 * pp)) (nI (0))) (((5 * pp) + 1)) (nI (y101))))) H locs) => ?_)
        refine lv_aload_n F.x F.b dX1_readPass_105 rfl (lv_at hl 2 rfl) ?_
        refine m_geta F I 18 (by decide) q1173 dX1_readPass_106 ?_
        refine lv_iload_n F.x F.b dX1_readPass_109 rfl (lv_at hl 1 rfl) ?_
        refine lv_iconst (v := nI (1)) F.x F.b dX1_readPass_110 (by decide) ?_
        refine n_iadd F dX1_readPass_111 ?_
        refine m_ld (v := nI (y101)) F I 18 (by decide) (show ((5 * pp) + 1) < 30 by omega) (by exact pk_us) dX1_readPass_112 ?_
        have st1 : stp (fT S b) n (23 + 6 * pp) := ⟨hn101, by omega, by rw [chk_p2]; exact hw101⟩
        refine lv_bipush (v := (-9)) F.x F.b dX1_readPass_113 (by decide) ?_
        refine lv_icmp_eq (x := (nI (y101))) (y := (-9)) (tgt := 149) F.x F.b dX1_readPass_115 (by decide) (fun c_115 => absurd c_115 (by exact nI_n9 _ (by omega))) (fun c_115 => ?_)
        refine lv_aload_n F.x F.b dX1_readPass_118 rfl (lv_at hl 2 rfl) ?_
        refine m_get (v := nI (b + ((23 + 6 * pp) + 1))) F I 14 (by decide) rfl q1169 dX1_readPass_119 ?_
        refine W.val (y := nI (b + (24 + 6 * pp))) (by exact congrArg nI (by omega)) ?_
        refine lv_iload_n F.x F.b dX1_readPass_122 rfl (lv_at hl 3 rfl) ?_
        refine n_icmp_ge (tgt := 151) F (by omega) (by omega) dX1_readPass_123 (by decide) (fun c_123 => ?_) (fun c_123 => ?_)
        · refine lv_aload_n F.x F.b dX1_readPass_151 rfl (lv_at hl 2 rfl) ?_
          refine m_geta F I 18 (by decide) q1173 dX1_readPass_152 ?_
          refine lv_iload_n F.x F.b dX1_readPass_155 rfl (lv_at hl 1 rfl) ?_
          refine lv_iconst (v := nI (2)) F.x F.b dX1_readPass_156 (by decide) ?_
          refine n_iadd F dX1_readPass_157 ?_
          refine lv_aload_n F.x F.b dX1_readPass_158 rfl (lv_at hl 2 rfl) ?_
          refine lv_iload_n F.x F.b dX1_readPass_159 rfl (lv_at hl 3 rfl) ?_
          refine lv_iconst (v := nI (0)) F.x F.b dX1_readPass_160 (by decide) ?_
          refine lv_iconst (v := nI (2)) F.x F.b dX1_readPass_161 (by decide) ?_
          refine g_calli I (g_runV (n := 3) (ci := 0) (q0 := 0) (As := [.int (nI (en)), .int (nI (0)), .int (nI (2))]) (rest := [.int (nI (((5 * pp) + 2))), .ref (q 18)]) F I (mt_digit l G o q ((va_up (va_up S.1 14 ((nI (b + (23 + 6 * pp))))) 14 (nI (b + ((23 + 6 * pp) + 1))), va_up (va_up S.2 18 (upd (S.2 18) ((5 * pp)) (nI (0)))) 18 (upd (upd (S.2 18) ((5 * pp)) (nI (0))) (((5 * pp) + 1)) (nI (y101))))) (en) (0) (2) b (24 + 6 * pp) n (by omega) (by omega) (by first | exact hat | exact congrArg nI (by omega)) (by omega) (by omega) (by omega) _) q1272 q1274 qs30 q56 q1275 hd_mt_digit ⟨Nat.le_of_ble_eq_true rfl, Nat.le_of_ble_eq_true rfl⟩ rfl rfl rfl rfl hl.1 rfl (lv_room (Nat.le_of_ble_eq_true rfl)) dX1_readPass_162 ⟨by first | exact Nat.le_refl _ | decide, by first | exact Nat.le_refl _ | decide⟩) (fun r Z162 H locs hp I => ?_)
          rcases hp with ⟨y162, hl162, hh162, hn162, hw162, he162, rfl, rfl⟩ | ⟨hw162, rfl, rfl⟩
          · skip
            refine m_st F I 18 (by decide) (show ((5 * pp) + 2) < 30 by omega) dX1_readPass_165 (fun H locs (I : Iw G A s (mW G o q (va_up (va_up (va_up S.1 14 ((nI (b + (23 + 6 * pp))))) 14 (nI (b + ((23 + 6 * pp) + 1)))) 14 (nI (b + ((24 + 6 * pp) + 1))), va_up (va_up (va_up S.2 18 (upd (S.2 18) ((5 * pp)) (nI (0)))) 18 (upd (upd (S.2 18) ((5 * pp)) (nI (0))) (((5 * pp) + 1)) (nI (y101)))) 18 (upd (upd (upd (S.2 18) ((5 * pp)) (nI (0))) (((5 * pp) + 1)) (nI (y101))) (((5 * pp) + 2)) (nI (y162))))) H locs) => ?_)
            refine lv_aload_n F.x F.b dX1_readPass_166 rfl (lv_at hl 2 rfl) ?_
            refine m_geta F I 18 (by decide) q1173 dX1_readPass_167 ?_
            refine lv_iload_n F.x F.b dX1_readPass_170 rfl (lv_at hl 1 rfl) ?_
            refine lv_iconst (v := nI (2)) F.x F.b dX1_readPass_171 (by decide) ?_
            refine n_iadd F dX1_readPass_172 ?_
            refine m_ld (v := nI (y162)) F I 18 (by decide) (show ((5 * pp) + 2) < 30 by omega) (by exact pk_us) dX1_readPass_173 ?_
            have st2 : stp (fT S b) n (24 + 6 * pp) := ⟨hn162, by omega, by rw [chk_p3, Bool.and_eq_true]; refine ⟨hw162, ?_⟩; rw [Bool.not_eq_true', decide_eq_false_iff_not]; intro z9; omega⟩
            refine lv_bipush (v := (-9)) F.x F.b dX1_readPass_174 (by decide) ?_
            refine lv_icmp_ne (x := (nI (y162))) (y := (-9)) (tgt := 181) F.x F.b dX1_readPass_176 (by decide) (fun c_176 => ?_) (fun c_176 => absurd c_176 (by first | decide | exact nI_n9 _ (by omega)))
            refine lv_aload_n F.x F.b dX1_readPass_181 rfl (lv_at hl 2 rfl) ?_
            refine m_geta F I 18 (by decide) q1173 dX1_readPass_182 ?_
            refine lv_iload_n F.x F.b dX1_readPass_185 rfl (lv_at hl 1 rfl) ?_
            refine lv_iconst (v := nI (3)) F.x F.b dX1_readPass_186 (by decide) ?_
            refine n_iadd F dX1_readPass_187 ?_
            refine lv_aload_n F.x F.b dX1_readPass_188 rfl (lv_at hl 2 rfl) ?_
            refine lv_iload_n F.x F.b dX1_readPass_189 rfl (lv_at hl 3 rfl) ?_
            refine lv_iconst (v := nI (1)) F.x F.b dX1_readPass_190 (by decide) ?_
            refine lv_iconst (v := nI (3)) F.x F.b dX1_readPass_191 (by decide) ?_
            refine g_calli I (g_runV (n := 3) (ci := 0) (q0 := 0) (As := [.int (nI (en)), .int (nI (1)), .int (nI (3))]) (rest := [.int (nI (((5 * pp) + 3))), .ref (q 18)]) F I (mt_digit l G o q ((va_up (va_up (va_up S.1 14 ((nI (b + (23 + 6 * pp))))) 14 (nI (b + ((23 + 6 * pp) + 1)))) 14 (nI (b + ((24 + 6 * pp) + 1))), va_up (va_up (va_up S.2 18 (upd (S.2 18) ((5 * pp)) (nI (0)))) 18 (upd (upd (S.2 18) ((5 * pp)) (nI (0))) (((5 * pp) + 1)) (nI (y101)))) 18 (upd (upd (upd (S.2 18) ((5 * pp)) (nI (0))) (((5 * pp) + 1)) (nI (y101))) (((5 * pp) + 2)) (nI (y162))))) (en) (1) (3) b (25 + 6 * pp) n (by omega) (by omega) (by first | exact hat | exact congrArg nI (by omega)) (by omega) (by omega) (by omega) _) q1272 q1274 qs30 q56 q1275 hd_mt_digit ⟨Nat.le_of_ble_eq_true rfl, Nat.le_of_ble_eq_true rfl⟩ rfl rfl rfl rfl hl.1 rfl (lv_room (Nat.le_of_ble_eq_true rfl)) dX1_readPass_192 ⟨by first | exact Nat.le_refl _ | decide, by first | exact Nat.le_refl _ | decide⟩) (fun r Z192 H locs hp I => ?_)
            rcases hp with ⟨y192, hl192, hh192, hn192, hw192, he192, rfl, rfl⟩ | ⟨hw192, rfl, rfl⟩
            · skip
              refine m_st F I 18 (by decide) (show ((5 * pp) + 3) < 30 by omega) dX1_readPass_195 (fun H locs (I : Iw G A s (mW G o q (va_up (va_up (va_up (va_up S.1 14 ((nI (b + (23 + 6 * pp))))) 14 (nI (b + ((23 + 6 * pp) + 1)))) 14 (nI (b + ((24 + 6 * pp) + 1)))) 14 (nI (b + ((25 + 6 * pp) + 1))), va_up (va_up (va_up (va_up S.2 18 (upd (S.2 18) ((5 * pp)) (nI (0)))) 18 (upd (upd (S.2 18) ((5 * pp)) (nI (0))) (((5 * pp) + 1)) (nI (y101)))) 18 (upd (upd (upd (S.2 18) ((5 * pp)) (nI (0))) (((5 * pp) + 1)) (nI (y101))) (((5 * pp) + 2)) (nI (y162)))) 18 (upd (upd (upd (upd (S.2 18) ((5 * pp)) (nI (0))) (((5 * pp) + 1)) (nI (y101))) (((5 * pp) + 2)) (nI (y162))) (((5 * pp) + 3)) (nI (y192))))) H locs) => ?_)
              refine lv_aload_n F.x F.b dX1_readPass_196 rfl (lv_at hl 2 rfl) ?_
              refine m_geta F I 18 (by decide) q1173 dX1_readPass_197 ?_
              refine lv_iload_n F.x F.b dX1_readPass_200 rfl (lv_at hl 1 rfl) ?_
              refine lv_iconst (v := nI (3)) F.x F.b dX1_readPass_201 (by decide) ?_
              refine n_iadd F dX1_readPass_202 ?_
              refine m_ld (v := nI (y192)) F I 18 (by decide) (show ((5 * pp) + 3) < 30 by omega) (by exact pk_us) dX1_readPass_203 ?_
              have st3 : stp (fT S b) n (25 + 6 * pp) := ⟨hn192, by omega, by rw [chk_p4]; exact hw192⟩
              refine lv_bipush (v := (-9)) F.x F.b dX1_readPass_204 (by decide) ?_
              refine lv_icmp_ne (x := (nI (y192))) (y := (-9)) (tgt := 211) F.x F.b dX1_readPass_206 (by decide) (fun c_206 => ?_) (fun c_206 => absurd c_206 (by first | decide | exact nI_n9 _ (by omega)))
              refine lv_aload_n F.x F.b dX1_readPass_211 rfl (lv_at hl 2 rfl) ?_
              refine m_geta F I 18 (by decide) q1173 dX1_readPass_212 ?_
              refine lv_iload_n F.x F.b dX1_readPass_215 rfl (lv_at hl 1 rfl) ?_
              refine lv_iconst (v := nI (4)) F.x F.b dX1_readPass_216 (by decide) ?_
              refine n_iadd F dX1_readPass_217 ?_
              refine lv_aload_n F.x F.b dX1_readPass_218 rfl (lv_at hl 2 rfl) ?_
              refine lv_iload_n F.x F.b dX1_readPass_219 rfl (lv_at hl 3 rfl) ?_
              refine lv_iconst (v := nI (0)) F.x F.b dX1_readPass_220 (by decide) ?_
              refine lv_bipush (v := nI (9)) F.x F.b dX1_readPass_221 (by decide) ?_
              refine g_calli I (g_runV (n := 3) (ci := 0) (q0 := 0) (As := [.int (nI (en)), .int (nI (0)), .int (nI (9))]) (rest := [.int (nI (((5 * pp) + 4))), .ref (q 18)]) F I (mt_digit l G o q ((va_up (va_up (va_up (va_up S.1 14 ((nI (b + (23 + 6 * pp))))) 14 (nI (b + ((23 + 6 * pp) + 1)))) 14 (nI (b + ((24 + 6 * pp) + 1)))) 14 (nI (b + ((25 + 6 * pp) + 1))), va_up (va_up (va_up (va_up S.2 18 (upd (S.2 18) ((5 * pp)) (nI (0)))) 18 (upd (upd (S.2 18) ((5 * pp)) (nI (0))) (((5 * pp) + 1)) (nI (y101)))) 18 (upd (upd (upd (S.2 18) ((5 * pp)) (nI (0))) (((5 * pp) + 1)) (nI (y101))) (((5 * pp) + 2)) (nI (y162)))) 18 (upd (upd (upd (upd (S.2 18) ((5 * pp)) (nI (0))) (((5 * pp) + 1)) (nI (y101))) (((5 * pp) + 2)) (nI (y162))) (((5 * pp) + 3)) (nI (y192))))) (en) (0) (9) b (26 + 6 * pp) n (by omega) (by omega) (by first | exact hat | exact congrArg nI (by omega)) (by omega) (by omega) (by omega) _) q1272 q1274 qs30 q56 q1275 hd_mt_digit ⟨Nat.le_of_ble_eq_true rfl, Nat.le_of_ble_eq_true rfl⟩ rfl rfl rfl rfl hl.1 rfl (lv_room (Nat.le_of_ble_eq_true rfl)) dX1_readPass_223 ⟨by first | exact Nat.le_refl _ | decide, by first | exact Nat.le_refl _ | decide⟩) (fun r Z223 H locs hp I => ?_)
              rcases hp with ⟨y223, hl223, hh223, hn223, hw223, he223, rfl, rfl⟩ | ⟨hw223, rfl, rfl⟩
              · skip
                refine m_st F I 18 (by decide) (show ((5 * pp) + 4) < 30 by omega) dX1_readPass_226 (fun H locs (I : Iw G A s (mW G o q (va_up (va_up (va_up (va_up (va_up S.1 14 ((nI (b + (23 + 6 * pp))))) 14 (nI (b + ((23 + 6 * pp) + 1)))) 14 (nI (b + ((24 + 6 * pp) + 1)))) 14 (nI (b + ((25 + 6 * pp) + 1)))) 14 (nI (b + ((26 + 6 * pp) + 1))), va_up (va_up (va_up (va_up (va_up S.2 18 (upd (S.2 18) ((5 * pp)) (nI (0)))) 18 (upd (upd (S.2 18) ((5 * pp)) (nI (0))) (((5 * pp) + 1)) (nI (y101)))) 18 (upd (upd (upd (S.2 18) ((5 * pp)) (nI (0))) (((5 * pp) + 1)) (nI (y101))) (((5 * pp) + 2)) (nI (y162)))) 18 (upd (upd (upd (upd (S.2 18) ((5 * pp)) (nI (0))) (((5 * pp) + 1)) (nI (y101))) (((5 * pp) + 2)) (nI (y162))) (((5 * pp) + 3)) (nI (y192)))) 18 (upd (upd (upd (upd (upd (S.2 18) ((5 * pp)) (nI (0))) (((5 * pp) + 1)) (nI (y101))) (((5 * pp) + 2)) (nI (y162))) (((5 * pp) + 3)) (nI (y192))) (((5 * pp) + 4)) (nI (y223))))) H locs) => ?_)
                refine lv_aload_n F.x F.b dX1_readPass_227 rfl (lv_at hl 2 rfl) ?_
                refine lv_dup F.x F.b dX1_readPass_228 rfl ?_
                refine m_get (v := (S.1 15)) F I 15 (by decide) rfl q1170 dX1_readPass_229 ?_
                refine W.val (y := nI (pp)) (by exact hrm) ?_
                refine lv_iconst (v := nI (1)) F.x F.b dX1_readPass_232 (by decide) ?_
                refine n_iadd F dX1_readPass_233 ?_
                refine W.val (y := nI ((pp + 1))) (by rfl) ?_
                refine m_put F I 15 (by decide) q1170 dX1_readPass_234 (fun H locs (I : Iw G A s (mW G o q (va_up (va_up (va_up (va_up (va_up (va_up S.1 14 ((nI (b + (23 + 6 * pp))))) 14 (nI (b + ((23 + 6 * pp) + 1)))) 14 (nI (b + ((24 + 6 * pp) + 1)))) 14 (nI (b + ((25 + 6 * pp) + 1)))) 14 (nI (b + ((26 + 6 * pp) + 1)))) 15 ((nI ((pp + 1)))), va_up (va_up (va_up (va_up (va_up S.2 18 (upd (S.2 18) ((5 * pp)) (nI (0)))) 18 (upd (upd (S.2 18) ((5 * pp)) (nI (0))) (((5 * pp) + 1)) (nI (y101)))) 18 (upd (upd (upd (S.2 18) ((5 * pp)) (nI (0))) (((5 * pp) + 1)) (nI (y101))) (((5 * pp) + 2)) (nI (y162)))) 18 (upd (upd (upd (upd (S.2 18) ((5 * pp)) (nI (0))) (((5 * pp) + 1)) (nI (y101))) (((5 * pp) + 2)) (nI (y162))) (((5 * pp) + 3)) (nI (y192)))) 18 (upd (upd (upd (upd (upd (S.2 18) ((5 * pp)) (nI (0))) (((5 * pp) + 1)) (nI (y101))) (((5 * pp) + 2)) (nI (y162))) (((5 * pp) + 3)) (nI (y192))) (((5 * pp) + 4)) (nI (y223))))) H locs) => ?_)
                refine lv_aload_n F.x F.b dX1_readPass_237 rfl (lv_at hl 2 rfl) ?_
                refine m_geta F I 18 (by decide) q1173 dX1_readPass_238 ?_
                refine lv_iload_n F.x F.b dX1_readPass_241 rfl (lv_at hl 1 rfl) ?_
                refine lv_iconst (v := nI (4)) F.x F.b dX1_readPass_242 (by decide) ?_
                refine n_iadd F dX1_readPass_243 ?_
                refine m_ld (v := nI (y223)) F I 18 (by decide) (show ((5 * pp) + 4) < 30 by omega) (by exact pk_us) dX1_readPass_244 ?_
                have st4 : stp (fT S b) n (26 + 6 * pp) := ⟨hn223, by omega, by rw [chk_p5]; exact hw223⟩
                refine lv_bipush (v := (-9)) F.x F.b dX1_readPass_245 (by decide) ?_
                refine lv_icmp_eq (x := (nI (y223))) (y := (-9)) (tgt := 254) F.x F.b dX1_readPass_247 (by decide) (fun c_247 => absurd c_247 (by exact nI_n9 _ (by omega))) (fun c_247 => ?_)
                refine lv_iconst (v := nI (1)) F.x F.b dX1_readPass_250 (by decide) ?_
                refine lv_goto (tgt := 255) F.x F.b dX1_readPass_251 (by decide) ?_
                exact g_zret (u := (va_up (va_up (va_up (va_up (va_up (va_up S.1 14 ((nI (b + (23 + 6 * pp))))) 14 (nI (b + ((23 + 6 * pp) + 1)))) 14 (nI (b + ((24 + 6 * pp) + 1)))) 14 (nI (b + ((25 + 6 * pp) + 1)))) 14 (nI (b + ((26 + 6 * pp) + 1)))) 15 ((nI ((pp + 1)))), va_up (va_up (va_up (va_up (va_up S.2 18 (upd (S.2 18) ((5 * pp)) (nI (0)))) 18 (upd (upd (S.2 18) ((5 * pp)) (nI (0))) (((5 * pp) + 1)) (nI (y101)))) 18 (upd (upd (upd (S.2 18) ((5 * pp)) (nI (0))) (((5 * pp) + 1)) (nI (y101))) (((5 * pp) + 2)) (nI (y162)))) 18 (upd (upd (upd (upd (S.2 18) ((5 * pp)) (nI (0))) (((5 * pp) + 1)) (nI (y101))) (((5 * pp) + 2)) (nI (y162))) (((5 * pp) + 3)) (nI (y192)))) 18 (upd (upd (upd (upd (upd (S.2 18) ((5 * pp)) (nI (0))) (((5 * pp) + 1)) (nI (y101))) (((5 * pp) + 2)) (nI (y162))) (((5 * pp) + 3)) (nI (y192))) (((5 * pp) + 4)) (nI (y223))))) F I (by first | exact bI_01 _ | exact Or.inl rfl | exact Or.inr rfl) (by exact Or.inl ⟨fun x h1 h2 => by rcases (show x = 22 + 6 * pp ∨ x = 23 + 6 * pp ∨ x = 24 + 6 * pp ∨ x = 25 + 6 * pp ∨ x = 26 + 6 * pp by omega) with rfl | rfl | rfl | rfl | rfl <;> assumption, rfl, congrArg nI (by omega), rfl, rfl, rfl, by rw [hkd, dv_y (f := fT S b) he101 (by omega), dv_y (f := fT S b) he162 (by omega), dv_y (f := fT S b) he192 (by omega), dv_y (f := fT S b) he223 (by omega)]; rfl, by rw [hkd]; decide, by rw [dv_y (f := fT S b) he101 (by omega)]; omega, by rw [dv_y (f := fT S b) he162 (by omega)]; omega, by rw [dv_y (f := fT S b) he192 (by omega)]; omega, by rw [dv_y (f := fT S b) he192 (by omega)]; omega, by rw [dv_y (f := fT S b) he223 (by omega)]; omega, by exact ⟨rfl, rfl, rfl, rfl, rfl, rfl, rfl, rfl, rfl, rfl, rfl, rfl, rfl, rfl, rfl, rfl, rfl⟩⟩) dX1_readPass_255 (by first | exact Nat.le_refl _ | decide) (by first | exact Nat.le_refl _ | decide)
              · skip
                refine m_st F I 18 (by decide) (show ((5 * pp) + 4) < 30 by omega) dX1_readPass_226 (fun H locs (I : Iw G A s (mW G o q (va_up (va_up (va_up (va_up S.1 14 ((nI (b + (23 + 6 * pp))))) 14 (nI (b + ((23 + 6 * pp) + 1)))) 14 (nI (b + ((24 + 6 * pp) + 1)))) 14 (nI (b + ((25 + 6 * pp) + 1))), va_up (va_up (va_up (va_up (va_up S.2 18 (upd (S.2 18) ((5 * pp)) (nI (0)))) 18 (upd (upd (S.2 18) ((5 * pp)) (nI (0))) (((5 * pp) + 1)) (nI (y101)))) 18 (upd (upd (upd (S.2 18) ((5 * pp)) (nI (0))) (((5 * pp) + 1)) (nI (y101))) (((5 * pp) + 2)) (nI (y162)))) 18 (upd (upd (upd (upd (S.2 18) ((5 * pp)) (nI (0))) (((5 * pp) + 1)) (nI (y101))) (((5 * pp) + 2)) (nI (y162))) (((5 * pp) + 3)) (nI (y192)))) 18 (upd (upd (upd (upd (upd (S.2 18) ((5 * pp)) (nI (0))) (((5 * pp) + 1)) (nI (y101))) (((5 * pp) + 2)) (nI (y162))) (((5 * pp) + 3)) (nI (y192))) (((5 * pp) + 4)) ((-9))))) H locs) => ?_)
                refine lv_aload_n F.x F.b dX1_readPass_227 rfl (lv_at hl 2 rfl) ?_
                refine lv_dup F.x F.b dX1_readPass_228 rfl ?_
                refine m_get (v := (S.1 15)) F I 15 (by decide) rfl q1170 dX1_readPass_229 ?_
                refine W.val (y := nI (pp)) (by exact hrm) ?_
                refine lv_iconst (v := nI (1)) F.x F.b dX1_readPass_232 (by decide) ?_
                refine n_iadd F dX1_readPass_233 ?_
                refine W.val (y := nI ((pp + 1))) (by rfl) ?_
                refine m_put F I 15 (by decide) q1170 dX1_readPass_234 (fun H locs (I : Iw G A s (mW G o q (va_up (va_up (va_up (va_up (va_up S.1 14 ((nI (b + (23 + 6 * pp))))) 14 (nI (b + ((23 + 6 * pp) + 1)))) 14 (nI (b + ((24 + 6 * pp) + 1)))) 14 (nI (b + ((25 + 6 * pp) + 1)))) 15 ((nI ((pp + 1)))), va_up (va_up (va_up (va_up (va_up S.2 18 (upd (S.2 18) ((5 * pp)) (nI (0)))) 18 (upd (upd (S.2 18) ((5 * pp)) (nI (0))) (((5 * pp) + 1)) (nI (y101)))) 18 (upd (upd (upd (S.2 18) ((5 * pp)) (nI (0))) (((5 * pp) + 1)) (nI (y101))) (((5 * pp) + 2)) (nI (y162)))) 18 (upd (upd (upd (upd (S.2 18) ((5 * pp)) (nI (0))) (((5 * pp) + 1)) (nI (y101))) (((5 * pp) + 2)) (nI (y162))) (((5 * pp) + 3)) (nI (y192)))) 18 (upd (upd (upd (upd (upd (S.2 18) ((5 * pp)) (nI (0))) (((5 * pp) + 1)) (nI (y101))) (((5 * pp) + 2)) (nI (y162))) (((5 * pp) + 3)) (nI (y192))) (((5 * pp) + 4)) ((-9))))) H locs) => ?_)
                refine lv_aload_n F.x F.b dX1_readPass_237 rfl (lv_at hl 2 rfl) ?_
                refine m_geta F I 18 (by decide) q1173 dX1_readPass_238 ?_
                refine lv_iload_n F.x F.b dX1_readPass_241 rfl (lv_at hl 1 rfl) ?_
                refine lv_iconst (v := nI (4)) F.x F.b dX1_readPass_242 (by decide) ?_
                refine n_iadd F dX1_readPass_243 ?_
                refine m_ld (v := (-9)) F I 18 (by decide) (show ((5 * pp) + 4) < 30 by omega) (by exact pk_us) dX1_readPass_244 ?_
                refine lv_bipush (v := (-9)) F.x F.b dX1_readPass_245 (by decide) ?_
                refine lv_icmp_eq (x := (-9)) (y := (-9)) (tgt := 254) F.x F.b dX1_readPass_247 (by decide) (fun c_247 => ?_) (fun c_247 => absurd c_247 (by exact fun z9 => z9 rfl))
                refine lv_iconst (v := nI (0)) F.x F.b dX1_readPass_254 (by decide) ?_
                exact g_zret (u := (va_up (va_up (va_up (va_up (va_up S.1 14 ((nI (b + (23 + 6 * pp))))) 14 (nI (b + ((23 + 6 * pp) + 1)))) 14 (nI (b + ((24 + 6 * pp) + 1)))) 14 (nI (b + ((25 + 6 * pp) + 1)))) 15 ((nI ((pp + 1)))), va_up (va_up (va_up (va_up (va_up S.2 18 (upd (S.2 18) ((5 * pp)) (nI (0)))) 18 (upd (upd (S.2 18) ((5 * pp)) (nI (0))) (((5 * pp) + 1)) (nI (y101)))) 18 (upd (upd (upd (S.2 18) ((5 * pp)) (nI (0))) (((5 * pp) + 1)) (nI (y101))) (((5 * pp) + 2)) (nI (y162)))) 18 (upd (upd (upd (upd (S.2 18) ((5 * pp)) (nI (0))) (((5 * pp) + 1)) (nI (y101))) (((5 * pp) + 2)) (nI (y162))) (((5 * pp) + 3)) (nI (y192)))) 18 (upd (upd (upd (upd (upd (S.2 18) ((5 * pp)) (nI (0))) (((5 * pp) + 1)) (nI (y101))) (((5 * pp) + 2)) (nI (y162))) (((5 * pp) + 3)) (nI (y192))) (((5 * pp) + 4)) ((-9))))) F I (by first | exact bI_01 _ | exact Or.inl rfl | exact Or.inr rfl) (by exact Or.inr ⟨4, by omega, fun x h1 h2 => by rcases (show x = 22 + 6 * pp ∨ x = 23 + 6 * pp ∨ x = 24 + 6 * pp ∨ x = 25 + 6 * pp by omega) with rfl | rfl | rfl | rfl <;> assumption, fun z9 => by have h9 := z9.2.2; rw [show 22 + 6 * pp + 4 = 26 + 6 * pp by omega, chk_p5] at h9; exact hw223 ⟨by have := z9.1; omega, h9⟩, rfl, congrArg nI (by omega), by exact ⟨rfl, rfl, rfl, rfl, rfl, rfl, rfl, rfl, rfl, rfl, rfl, rfl, rfl, rfl, rfl, rfl, rfl⟩⟩) dX1_readPass_255 (by first | exact Nat.le_refl _ | decide) (by first | exact Nat.le_refl _ | decide)
            · skip
              refine m_st F I 18 (by decide) (show ((5 * pp) + 3) < 30 by omega) dX1_readPass_195 (fun H locs (I : Iw G A s (mW G o q (va_up (va_up (va_up S.1 14 ((nI (b + (23 + 6 * pp))))) 14 (nI (b + ((23 + 6 * pp) + 1)))) 14 (nI (b + ((24 + 6 * pp) + 1))), va_up (va_up (va_up (va_up S.2 18 (upd (S.2 18) ((5 * pp)) (nI (0)))) 18 (upd (upd (S.2 18) ((5 * pp)) (nI (0))) (((5 * pp) + 1)) (nI (y101)))) 18 (upd (upd (upd (S.2 18) ((5 * pp)) (nI (0))) (((5 * pp) + 1)) (nI (y101))) (((5 * pp) + 2)) (nI (y162)))) 18 (upd (upd (upd (upd (S.2 18) ((5 * pp)) (nI (0))) (((5 * pp) + 1)) (nI (y101))) (((5 * pp) + 2)) (nI (y162))) (((5 * pp) + 3)) ((-9))))) H locs) => ?_)
              refine lv_aload_n F.x F.b dX1_readPass_196 rfl (lv_at hl 2 rfl) ?_
              refine m_geta F I 18 (by decide) q1173 dX1_readPass_197 ?_
              refine lv_iload_n F.x F.b dX1_readPass_200 rfl (lv_at hl 1 rfl) ?_
              refine lv_iconst (v := nI (3)) F.x F.b dX1_readPass_201 (by decide) ?_
              refine n_iadd F dX1_readPass_202 ?_
              refine m_ld (v := (-9)) F I 18 (by decide) (show ((5 * pp) + 3) < 30 by omega) (by exact pk_us) dX1_readPass_203 ?_
              refine lv_bipush (v := (-9)) F.x F.b dX1_readPass_204 (by decide) ?_
              refine lv_icmp_ne (x := (-9)) (y := (-9)) (tgt := 211) F.x F.b dX1_readPass_206 (by decide) (fun c_206 => absurd c_206 (by exact fun z9 => z9 rfl)) (fun c_206 => ?_)
              refine lv_iconst (v := nI (0)) F.x F.b dX1_readPass_209 (by decide) ?_
              exact g_zret (u := (va_up (va_up (va_up S.1 14 ((nI (b + (23 + 6 * pp))))) 14 (nI (b + ((23 + 6 * pp) + 1)))) 14 (nI (b + ((24 + 6 * pp) + 1))), va_up (va_up (va_up (va_up S.2 18 (upd (S.2 18) ((5 * pp)) (nI (0)))) 18 (upd (upd (S.2 18) ((5 * pp)) (nI (0))) (((5 * pp) + 1)) (nI (y101)))) 18 (upd (upd (upd (S.2 18) ((5 * pp)) (nI (0))) (((5 * pp) + 1)) (nI (y101))) (((5 * pp) + 2)) (nI (y162)))) 18 (upd (upd (upd (upd (S.2 18) ((5 * pp)) (nI (0))) (((5 * pp) + 1)) (nI (y101))) (((5 * pp) + 2)) (nI (y162))) (((5 * pp) + 3)) ((-9))))) F I (by first | exact bI_01 _ | exact Or.inl rfl | exact Or.inr rfl) (by exact Or.inr ⟨3, by omega, fun x h1 h2 => by rcases (show x = 22 + 6 * pp ∨ x = 23 + 6 * pp ∨ x = 24 + 6 * pp by omega) with rfl | rfl | rfl <;> assumption, fun z9 => by have h9 := z9.2.2; rw [show 22 + 6 * pp + 3 = 25 + 6 * pp by omega, chk_p4] at h9; exact hw192 ⟨by have := z9.1; omega, h9⟩, rfl, congrArg nI (by omega), by exact ⟨rfl, rfl, rfl, rfl, rfl, rfl, rfl, rfl, rfl, rfl, rfl, rfl, rfl, rfl, rfl, rfl, rfl⟩⟩) dX1_readPass_210 (by first | exact Nat.le_refl _ | decide) (by first | exact Nat.le_refl _ | decide)
          · skip
            refine m_st F I 18 (by decide) (show ((5 * pp) + 2) < 30 by omega) dX1_readPass_165 (fun H locs (I : Iw G A s (mW G o q (va_up (va_up S.1 14 ((nI (b + (23 + 6 * pp))))) 14 (nI (b + ((23 + 6 * pp) + 1))), va_up (va_up (va_up S.2 18 (upd (S.2 18) ((5 * pp)) (nI (0)))) 18 (upd (upd (S.2 18) ((5 * pp)) (nI (0))) (((5 * pp) + 1)) (nI (y101)))) 18 (upd (upd (upd (S.2 18) ((5 * pp)) (nI (0))) (((5 * pp) + 1)) (nI (y101))) (((5 * pp) + 2)) ((-9))))) H locs) => ?_)
            refine lv_aload_n F.x F.b dX1_readPass_166 rfl (lv_at hl 2 rfl) ?_
            refine m_geta F I 18 (by decide) q1173 dX1_readPass_167 ?_
            refine lv_iload_n F.x F.b dX1_readPass_170 rfl (lv_at hl 1 rfl) ?_
            refine lv_iconst (v := nI (2)) F.x F.b dX1_readPass_171 (by decide) ?_
            refine n_iadd F dX1_readPass_172 ?_
            refine m_ld (v := (-9)) F I 18 (by decide) (show ((5 * pp) + 2) < 30 by omega) (by exact pk_us) dX1_readPass_173 ?_
            refine lv_bipush (v := (-9)) F.x F.b dX1_readPass_174 (by decide) ?_
            refine lv_icmp_ne (x := (-9)) (y := (-9)) (tgt := 181) F.x F.b dX1_readPass_176 (by decide) (fun c_176 => absurd c_176 (by exact fun z9 => z9 rfl)) (fun c_176 => ?_)
            refine lv_iconst (v := nI (0)) F.x F.b dX1_readPass_179 (by decide) ?_
            exact g_zret (u := (va_up (va_up S.1 14 ((nI (b + (23 + 6 * pp))))) 14 (nI (b + ((23 + 6 * pp) + 1))), va_up (va_up (va_up S.2 18 (upd (S.2 18) ((5 * pp)) (nI (0)))) 18 (upd (upd (S.2 18) ((5 * pp)) (nI (0))) (((5 * pp) + 1)) (nI (y101)))) 18 (upd (upd (upd (S.2 18) ((5 * pp)) (nI (0))) (((5 * pp) + 1)) (nI (y101))) (((5 * pp) + 2)) ((-9))))) F I (by first | exact bI_01 _ | exact Or.inl rfl | exact Or.inr rfl) (by exact Or.inr ⟨2, by omega, fun x h1 h2 => by rcases (show x = 22 + 6 * pp ∨ x = 23 + 6 * pp by omega) with rfl | rfl <;> assumption, fun z9 => by have h9 := z9.2.2; rw [show 22 + 6 * pp + 2 = 24 + 6 * pp by omega, chk_p3] at h9; exact hw162 ⟨by have := z9.1; omega, by rw [Bool.and_eq_true] at h9; exact h9.1⟩, rfl, congrArg nI (by omega), by exact ⟨rfl, rfl, rfl, rfl, rfl, rfl, rfl, rfl, rfl, rfl, rfl, rfl, rfl, rfl, rfl, rfl, rfl⟩⟩) dX1_readPass_180 (by first | exact Nat.le_refl _ | decide) (by first | exact Nat.le_refl _ | decide)
        · refine lv_aload_n F.x F.b dX1_readPass_126 rfl (lv_at hl 2 rfl) ?_
          refine m_geta F I 4 (by decide) q1159 dX1_readPass_127 ?_
          refine lv_aload_n F.x F.b dX1_readPass_130 rfl (lv_at hl 2 rfl) ?_
          refine m_get (v := nI (b + ((23 + 6 * pp) + 1))) F I 14 (by decide) rfl q1169 dX1_readPass_131 ?_
          refine W.val (y := nI (b + (24 + 6 * pp))) (by exact congrArg nI (by omega)) ?_
          refine m_ld (v := ((S.2 4) (b + (24 + 6 * pp)))) F I 4 (by decide) (show b + (24 + 6 * pp) < 240 by omega) rfl dX1_readPass_134 ?_
          refine lv_bipush (v := nI (48)) F.x F.b dX1_readPass_135 (by decide) ?_
          refine lv_isub (x := ((S.2 4) (b + (24 + 6 * pp)))) (y := 48) F.x F.b dX1_readPass_137 ?_
          refine lv_aload_n F.x F.b dX1_readPass_138 rfl (lv_at hl 2 rfl) ?_
          refine m_geta F I 18 (by decide) q1173 dX1_readPass_139 ?_
          refine lv_iload_n F.x F.b dX1_readPass_142 rfl (lv_at hl 1 rfl) ?_
          refine lv_iconst (v := nI (1)) F.x F.b dX1_readPass_143 (by decide) ?_
          refine n_iadd F dX1_readPass_144 ?_
          refine m_ld (v := nI (y101)) F I 18 (by decide) (show ((5 * pp) + 1) < 30 by omega) (by exact pk_us) dX1_readPass_145 ?_
          refine lv_icmp_ne (x := (((S.2 4) (b + (24 + 6 * pp))) - 48)) (y := (nI (y101))) (tgt := 151) F.x F.b dX1_readPass_146 (by decide) (fun c_146 => ?_) (fun c_146 => ?_)
          · refine lv_aload_n F.x F.b dX1_readPass_151 rfl (lv_at hl 2 rfl) ?_
            refine m_geta F I 18 (by decide) q1173 dX1_readPass_152 ?_
            refine lv_iload_n F.x F.b dX1_readPass_155 rfl (lv_at hl 1 rfl) ?_
            refine lv_iconst (v := nI (2)) F.x F.b dX1_readPass_156 (by decide) ?_
            refine n_iadd F dX1_readPass_157 ?_
            refine lv_aload_n F.x F.b dX1_readPass_158 rfl (lv_at hl 2 rfl) ?_
            refine lv_iload_n F.x F.b dX1_readPass_159 rfl (lv_at hl 3 rfl) ?_
            refine lv_iconst (v := nI (0)) F.x F.b dX1_readPass_160 (by decide) ?_
            refine lv_iconst (v := nI (2)) F.x F.b dX1_readPass_161 (by decide) ?_
            refine g_calli I (g_runV (n := 3) (ci := 0) (q0 := 0) (As := [.int (nI (en)), .int (nI (0)), .int (nI (2))]) (rest := [.int (nI (((5 * pp) + 2))), .ref (q 18)]) F I (mt_digit l G o q ((va_up (va_up S.1 14 ((nI (b + (23 + 6 * pp))))) 14 (nI (b + ((23 + 6 * pp) + 1))), va_up (va_up S.2 18 (upd (S.2 18) ((5 * pp)) (nI (0)))) 18 (upd (upd (S.2 18) ((5 * pp)) (nI (0))) (((5 * pp) + 1)) (nI (y101))))) (en) (0) (2) b (24 + 6 * pp) n (by omega) (by omega) (by first | exact hat | exact congrArg nI (by omega)) (by omega) (by omega) (by omega) _) q1272 q1274 qs30 q56 q1275 hd_mt_digit ⟨Nat.le_of_ble_eq_true rfl, Nat.le_of_ble_eq_true rfl⟩ rfl rfl rfl rfl hl.1 rfl (lv_room (Nat.le_of_ble_eq_true rfl)) dX1_readPass_162 ⟨by first | exact Nat.le_refl _ | decide, by first | exact Nat.le_refl _ | decide⟩) (fun r Z162 H locs hp I => ?_)
            rcases hp with ⟨y162, hl162, hh162, hn162, hw162, he162, rfl, rfl⟩ | ⟨hw162, rfl, rfl⟩
            · skip
              refine m_st F I 18 (by decide) (show ((5 * pp) + 2) < 30 by omega) dX1_readPass_165 (fun H locs (I : Iw G A s (mW G o q (va_up (va_up (va_up S.1 14 ((nI (b + (23 + 6 * pp))))) 14 (nI (b + ((23 + 6 * pp) + 1)))) 14 (nI (b + ((24 + 6 * pp) + 1))), va_up (va_up (va_up S.2 18 (upd (S.2 18) ((5 * pp)) (nI (0)))) 18 (upd (upd (S.2 18) ((5 * pp)) (nI (0))) (((5 * pp) + 1)) (nI (y101)))) 18 (upd (upd (upd (S.2 18) ((5 * pp)) (nI (0))) (((5 * pp) + 1)) (nI (y101))) (((5 * pp) + 2)) (nI (y162))))) H locs) => ?_)
              refine lv_aload_n F.x F.b dX1_readPass_166 rfl (lv_at hl 2 rfl) ?_
              refine m_geta F I 18 (by decide) q1173 dX1_readPass_167 ?_
              refine lv_iload_n F.x F.b dX1_readPass_170 rfl (lv_at hl 1 rfl) ?_
              refine lv_iconst (v := nI (2)) F.x F.b dX1_readPass_171 (by decide) ?_
              refine n_iadd F dX1_readPass_172 ?_
              refine m_ld (v := nI (y162)) F I 18 (by decide) (show ((5 * pp) + 2) < 30 by omega) (by exact pk_us) dX1_readPass_173 ?_
              have st2 : stp (fT S b) n (24 + 6 * pp) := ⟨hn162, by omega, by rw [chk_p3, Bool.and_eq_true]; refine ⟨hw162, ?_⟩; rw [Bool.not_eq_true', decide_eq_false_iff_not]; intro z9; exact c_146 (by rw [show S.2 4 (b + (24 + 6 * pp)) = nI (48 + y101) from z9.trans he101, show (48 : Int32) = nI 48 from rfl, pk_sub (by omega), show 48 + y101 - 48 = y101 by omega])⟩
              refine lv_bipush (v := (-9)) F.x F.b dX1_readPass_174 (by decide) ?_
              refine lv_icmp_ne (x := (nI (y162))) (y := (-9)) (tgt := 181) F.x F.b dX1_readPass_176 (by decide) (fun c_176 => ?_) (fun c_176 => absurd c_176 (by first | decide | exact nI_n9 _ (by omega)))
              refine lv_aload_n F.x F.b dX1_readPass_181 rfl (lv_at hl 2 rfl) ?_
              refine m_geta F I 18 (by decide) q1173 dX1_readPass_182 ?_
              refine lv_iload_n F.x F.b dX1_readPass_185 rfl (lv_at hl 1 rfl) ?_
              refine lv_iconst (v := nI (3)) F.x F.b dX1_readPass_186 (by decide) ?_
              refine n_iadd F dX1_readPass_187 ?_
              refine lv_aload_n F.x F.b dX1_readPass_188 rfl (lv_at hl 2 rfl) ?_
              refine lv_iload_n F.x F.b dX1_readPass_189 rfl (lv_at hl 3 rfl) ?_
              refine lv_iconst (v := nI (1)) F.x F.b dX1_readPass_190 (by decide) ?_
              refine lv_iconst (v := nI (3)) F.x F.b dX1_readPass_191 (by decide) ?_
              refine g_calli I (g_runV (n := 3) (ci := 0) (q0 := 0) (As := [.int (nI (en)), .int (nI (1)), .int (nI (3))]) (rest := [.int (nI (((5 * pp) + 3))), .ref (q 18)]) F I (mt_digit l G o q ((va_up (va_up (va_up S.1 14 ((nI (b + (23 + 6 * pp))))) 14 (nI (b + ((23 + 6 * pp) + 1)))) 14 (nI (b + ((24 + 6 * pp) + 1))), va_up (va_up (va_up S.2 18 (upd (S.2 18) ((5 * pp)) (nI (0)))) 18 (upd (upd (S.2 18) ((5 * pp)) (nI (0))) (((5 * pp) + 1)) (nI (y101)))) 18 (upd (upd (upd (S.2 18) ((5 * pp)) (nI (0))) (((5 * pp) + 1)) (nI (y101))) (((5 * pp) + 2)) (nI (y162))))) (en) (1) (3) b (25 + 6 * pp) n (by omega) (by omega) (by first | exact hat | exact congrArg nI (by omega)) (by omega) (by omega) (by omega) _) q1272 q1274 qs30 q56 q1275 hd_mt_digit ⟨Nat.le_of_ble_eq_true rfl, Nat.le_of_ble_eq_true rfl⟩ rfl rfl rfl rfl hl.1 rfl (lv_room (Nat.le_of_ble_eq_true rfl)) dX1_readPass_192 ⟨by first | exact Nat.le_refl _ | decide, by first | exact Nat.le_refl _ | decide⟩) (fun r Z192 H locs hp I => ?_)
              rcases hp with ⟨y192, hl192, hh192, hn192, hw192, he192, rfl, rfl⟩ | ⟨hw192, rfl, rfl⟩
              · skip
                refine m_st F I 18 (by decide) (show ((5 * pp) + 3) < 30 by omega) dX1_readPass_195 (fun H locs (I : Iw G A s (mW G o q (va_up (va_up (va_up (va_up S.1 14 ((nI (b + (23 + 6 * pp))))) 14 (nI (b + ((23 + 6 * pp) + 1)))) 14 (nI (b + ((24 + 6 * pp) + 1)))) 14 (nI (b + ((25 + 6 * pp) + 1))), va_up (va_up (va_up (va_up S.2 18 (upd (S.2 18) ((5 * pp)) (nI (0)))) 18 (upd (upd (S.2 18) ((5 * pp)) (nI (0))) (((5 * pp) + 1)) (nI (y101)))) 18 (upd (upd (upd (S.2 18) ((5 * pp)) (nI (0))) (((5 * pp) + 1)) (nI (y101))) (((5 * pp) + 2)) (nI (y162)))) 18 (upd (upd (upd (upd (S.2 18) ((5 * pp)) (nI (0))) (((5 * pp) + 1)) (nI (y101))) (((5 * pp) + 2)) (nI (y162))) (((5 * pp) + 3)) (nI (y192))))) H locs) => ?_)
                refine lv_aload_n F.x F.b dX1_readPass_196 rfl (lv_at hl 2 rfl) ?_
                refine m_geta F I 18 (by decide) q1173 dX1_readPass_197 ?_
                refine lv_iload_n F.x F.b dX1_readPass_200 rfl (lv_at hl 1 rfl) ?_
                refine lv_iconst (v := nI (3)) F.x F.b dX1_readPass_201 (by decide) ?_
                refine n_iadd F dX1_readPass_202 ?_
                refine m_ld (v := nI (y192)) F I 18 (by decide) (show ((5 * pp) + 3) < 30 by omega) (by exact pk_us) dX1_readPass_203 ?_
                have st3 : stp (fT S b) n (25 + 6 * pp) := ⟨hn192, by omega, by rw [chk_p4]; exact hw192⟩
                refine lv_bipush (v := (-9)) F.x F.b dX1_readPass_204 (by decide) ?_
                refine lv_icmp_ne (x := (nI (y192))) (y := (-9)) (tgt := 211) F.x F.b dX1_readPass_206 (by decide) (fun c_206 => ?_) (fun c_206 => absurd c_206 (by first | decide | exact nI_n9 _ (by omega)))
                refine lv_aload_n F.x F.b dX1_readPass_211 rfl (lv_at hl 2 rfl) ?_
                refine m_geta F I 18 (by decide) q1173 dX1_readPass_212 ?_
                refine lv_iload_n F.x F.b dX1_readPass_215 rfl (lv_at hl 1 rfl) ?_
                refine lv_iconst (v := nI (4)) F.x F.b dX1_readPass_216 (by decide) ?_
                refine n_iadd F dX1_readPass_217 ?_
                refine lv_aload_n F.x F.b dX1_readPass_218 rfl (lv_at hl 2 rfl) ?_
                refine lv_iload_n F.x F.b dX1_readPass_219 rfl (lv_at hl 3 rfl) ?_
                refine lv_iconst (v := nI (0)) F.x F.b dX1_readPass_220 (by decide) ?_
                refine lv_bipush (v := nI (9)) F.x F.b dX1_readPass_221 (by decide) ?_
                refine g_calli I (g_runV (n := 3) (ci := 0) (q0 := 0) (As := [.int (nI (en)), .int (nI (0)), .int (nI (9))]) (rest := [.int (nI (((5 * pp) + 4))), .ref (q 18)]) F I (mt_digit l G o q ((va_up (va_up (va_up (va_up S.1 14 ((nI (b + (23 + 6 * pp))))) 14 (nI (b + ((23 + 6 * pp) + 1)))) 14 (nI (b + ((24 + 6 * pp) + 1)))) 14 (nI (b + ((25 + 6 * pp) + 1))), va_up (va_up (va_up (va_up S.2 18 (upd (S.2 18) ((5 * pp)) (nI (0)))) 18 (upd (upd (S.2 18) ((5 * pp)) (nI (0))) (((5 * pp) + 1)) (nI (y101)))) 18 (upd (upd (upd (S.2 18) ((5 * pp)) (nI (0))) (((5 * pp) + 1)) (nI (y101))) (((5 * pp) + 2)) (nI (y162)))) 18 (upd (upd (upd (upd (S.2 18) ((5 * pp)) (nI (0))) (((5 * pp) + 1)) (nI (y101))) (((5 * pp) + 2)) (nI (y162))) (((5 * pp) + 3)) (nI (y192))))) (en) (0) (9) b (26 + 6 * pp) n (by omega) (by omega) (by first | exact hat | exact congrArg nI (by omega)) (by omega) (by omega) (by omega) _) q1272 q1274 qs30 q56 q1275 hd_mt_digit ⟨Nat.le_of_ble_eq_true rfl, Nat.le_of_ble_eq_true rfl⟩ rfl rfl rfl rfl hl.1 rfl (lv_room (Nat.le_of_ble_eq_true rfl)) dX1_readPass_223 ⟨by first | exact Nat.le_refl _ | decide, by first | exact Nat.le_refl _ | decide⟩) (fun r Z223 H locs hp I => ?_)
                rcases hp with ⟨y223, hl223, hh223, hn223, hw223, he223, rfl, rfl⟩ | ⟨hw223, rfl, rfl⟩
                · skip
                  refine m_st F I 18 (by decide) (show ((5 * pp) + 4) < 30 by omega) dX1_readPass_226 (fun H locs (I : Iw G A s (mW G o q (va_up (va_up (va_up (va_up (va_up S.1 14 ((nI (b + (23 + 6 * pp))))) 14 (nI (b + ((23 + 6 * pp) + 1)))) 14 (nI (b + ((24 + 6 * pp) + 1)))) 14 (nI (b + ((25 + 6 * pp) + 1)))) 14 (nI (b + ((26 + 6 * pp) + 1))), va_up (va_up (va_up (va_up (va_up S.2 18 (upd (S.2 18) ((5 * pp)) (nI (0)))) 18 (upd (upd (S.2 18) ((5 * pp)) (nI (0))) (((5 * pp) + 1)) (nI (y101)))) 18 (upd (upd (upd (S.2 18) ((5 * pp)) (nI (0))) (((5 * pp) + 1)) (nI (y101))) (((5 * pp) + 2)) (nI (y162)))) 18 (upd (upd (upd (upd (S.2 18) ((5 * pp)) (nI (0))) (((5 * pp) + 1)) (nI (y101))) (((5 * pp) + 2)) (nI (y162))) (((5 * pp) + 3)) (nI (y192)))) 18 (upd (upd (upd (upd (upd (S.2 18) ((5 * pp)) (nI (0))) (((5 * pp) + 1)) (nI (y101))) (((5 * pp) + 2)) (nI (y162))) (((5 * pp) + 3)) (nI (y192))) (((5 * pp) + 4)) (nI (y223))))) H locs) => ?_)
                  refine lv_aload_n F.x F.b dX1_readPass_227 rfl (lv_at hl 2 rfl) ?_
                  refine lv_dup F.x F.b dX1_readPass_228 rfl ?_
                  refine m_get (v := (S.1 15)) F I 15 (by decide) rfl q1170 dX1_readPass_229 ?_
                  refine W.val (y := nI (pp)) (by exact hrm) ?_
                  refine lv_iconst (v := nI (1)) F.x F.b dX1_readPass_232 (by decide) ?_
                  refine n_iadd F dX1_readPass_233 ?_
                  refine W.val (y := nI ((pp + 1))) (by rfl) ?_
                  refine m_put F I 15 (by decide) q1170 dX1_readPass_234 (fun H locs (I : Iw G A s (mW G o q (va_up (va_up (va_up (va_up (va_up (va_up S.1 14 ((nI (b + (23 + 6 * pp))))) 14 (nI (b + ((23 + 6 * pp) + 1)))) 14 (nI (b + ((24 + 6 * pp) + 1)))) 14 (nI (b + ((25 + 6 * pp) + 1)))) 14 (nI (b + ((26 + 6 * pp) + 1)))) 15 ((nI ((pp + 1)))), va_up (va_up (va_up (va_up (va_up S.2 18 (upd (S.2 18) ((5 * pp)) (nI (0)))) 18 (upd (upd (S.2 18) ((5 * pp)) (nI (0))) (((5 * pp) + 1)) (nI (y101)))) 18 (upd (upd (upd (S.2 18) ((5 * pp)) (nI (0))) (((5 * pp) + 1)) (nI (y101))) (((5 * pp) + 2)) (nI (y162)))) 18 (upd (upd (upd (upd (S.2 18) ((5 * pp)) (nI (0))) (((5 * pp) + 1)) (nI (y101))) (((5 * pp) + 2)) (nI (y162))) (((5 * pp) + 3)) (nI (y192)))) 18 (upd (upd (upd (upd (upd (S.2 18) ((5 * pp)) (nI (0))) (((5 * pp) + 1)) (nI (y101))) (((5 * pp) + 2)) (nI (y162))) (((5 * pp) + 3)) (nI (y192))) (((5 * pp) + 4)) (nI (y223))))) H locs) => ?_)
                  refine lv_aload_n F.x F.b dX1_readPass_237 rfl (lv_at hl 2 rfl) ?_
                  refine m_geta F I 18 (by decide) q1173 dX1_readPass_238 ?_
                  refine lv_iload_n F.x F.b dX1_readPass_241 rfl (lv_at hl 1 rfl) ?_
                  refine lv_iconst (v := nI (4)) F.x F.b dX1_readPass_242 (by decide) ?_
                  refine n_iadd F dX1_readPass_243 ?_
                  refine m_ld (v := nI (y223)) F I 18 (by decide) (show ((5 * pp) + 4) < 30 by omega) (by exact pk_us) dX1_readPass_244 ?_
                  have st4 : stp (fT S b) n (26 + 6 * pp) := ⟨hn223, by omega, by rw [chk_p5]; exact hw223⟩
                  refine lv_bipush (v := (-9)) F.x F.b dX1_readPass_245 (by decide) ?_
                  refine lv_icmp_eq (x := (nI (y223))) (y := (-9)) (tgt := 254) F.x F.b dX1_readPass_247 (by decide) (fun c_247 => absurd c_247 (by exact nI_n9 _ (by omega))) (fun c_247 => ?_)
                  refine lv_iconst (v := nI (1)) F.x F.b dX1_readPass_250 (by decide) ?_
                  refine lv_goto (tgt := 255) F.x F.b dX1_readPass_251 (by decide) ?_
                  exact g_zret (u := (va_up (va_up (va_up (va_up (va_up (va_up S.1 14 ((nI (b + (23 + 6 * pp))))) 14 (nI (b + ((23 + 6 * pp) + 1)))) 14 (nI (b + ((24 + 6 * pp) + 1)))) 14 (nI (b + ((25 + 6 * pp) + 1)))) 14 (nI (b + ((26 + 6 * pp) + 1)))) 15 ((nI ((pp + 1)))), va_up (va_up (va_up (va_up (va_up S.2 18 (upd (S.2 18) ((5 * pp)) (nI (0)))) 18 (upd (upd (S.2 18) ((5 * pp)) (nI (0))) (((5 * pp) + 1)) (nI (y101)))) 18 (upd (upd (upd (S.2 18) ((5 * pp)) (nI (0))) (((5 * pp) + 1)) (nI (y101))) (((5 * pp) + 2)) (nI (y162)))) 18 (upd (upd (upd (upd (S.2 18) ((5 * pp)) (nI (0))) (((5 * pp) + 1)) (nI (y101))) (((5 * pp) + 2)) (nI (y162))) (((5 * pp) + 3)) (nI (y192)))) 18 (upd (upd (upd (upd (upd (S.2 18) ((5 * pp)) (nI (0))) (((5 * pp) + 1)) (nI (y101))) (((5 * pp) + 2)) (nI (y162))) (((5 * pp) + 3)) (nI (y192))) (((5 * pp) + 4)) (nI (y223))))) F I (by first | exact bI_01 _ | exact Or.inl rfl | exact Or.inr rfl) (by exact Or.inl ⟨fun x h1 h2 => by rcases (show x = 22 + 6 * pp ∨ x = 23 + 6 * pp ∨ x = 24 + 6 * pp ∨ x = 25 + 6 * pp ∨ x = 26 + 6 * pp by omega) with rfl | rfl | rfl | rfl | rfl <;> assumption, rfl, congrArg nI (by omega), rfl, rfl, rfl, by rw [hkd, dv_y (f := fT S b) he101 (by omega), dv_y (f := fT S b) he162 (by omega), dv_y (f := fT S b) he192 (by omega), dv_y (f := fT S b) he223 (by omega)]; rfl, by rw [hkd]; decide, by rw [dv_y (f := fT S b) he101 (by omega)]; omega, by rw [dv_y (f := fT S b) he162 (by omega)]; omega, by rw [dv_y (f := fT S b) he192 (by omega)]; omega, by rw [dv_y (f := fT S b) he192 (by omega)]; omega, by rw [dv_y (f := fT S b) he223 (by omega)]; omega, by exact ⟨rfl, rfl, rfl, rfl, rfl, rfl, rfl, rfl, rfl, rfl, rfl, rfl, rfl, rfl, rfl, rfl, rfl⟩⟩) dX1_readPass_255 (by first | exact Nat.le_refl _ | decide) (by first | exact Nat.le_refl _ | decide)
                · skip
                  refine m_st F I 18 (by decide) (show ((5 * pp) + 4) < 30 by omega) dX1_readPass_226 (fun H locs (I : Iw G A s (mW G o q (va_up (va_up (va_up (va_up S.1 14 ((nI (b + (23 + 6 * pp))))) 14 (nI (b + ((23 + 6 * pp) + 1)))) 14 (nI (b + ((24 + 6 * pp) + 1)))) 14 (nI (b + ((25 + 6 * pp) + 1))), va_up (va_up (va_up (va_up (va_up S.2 18 (upd (S.2 18) ((5 * pp)) (nI (0)))) 18 (upd (upd (S.2 18) ((5 * pp)) (nI (0))) (((5 * pp) + 1)) (nI (y101)))) 18 (upd (upd (upd (S.2 18) ((5 * pp)) (nI (0))) (((5 * pp) + 1)) (nI (y101))) (((5 * pp) + 2)) (nI (y162)))) 18 (upd (upd (upd (upd (S.2 18) ((5 * pp)) (nI (0))) (((5 * pp) + 1)) (nI (y101))) (((5 * pp) + 2)) (nI (y162))) (((5 * pp) + 3)) (nI (y192)))) 18 (upd (upd (upd (upd (upd (S.2 18) ((5 * pp)) (nI (0))) (((5 * pp) + 1)) (nI (y101))) (((5 * pp) + 2)) (nI (y162))) (((5 * pp) + 3)) (nI (y192))) (((5 * pp) + 4)) ((-9))))) H locs) => ?_)
                  refine lv_aload_n F.x F.b dX1_readPass_227 rfl (lv_at hl 2 rfl) ?_
                  refine lv_dup F.x F.b dX1_readPass_228 rfl ?_
                  refine m_get (v := (S.1 15)) F I 15 (by decide) rfl q1170 dX1_readPass_229 ?_
                  refine W.val (y := nI (pp)) (by exact hrm) ?_
                  refine lv_iconst (v := nI (1)) F.x F.b dX1_readPass_232 (by decide) ?_
                  refine n_iadd F dX1_readPass_233 ?_
                  refine W.val (y := nI ((pp + 1))) (by rfl) ?_
                  refine m_put F I 15 (by decide) q1170 dX1_readPass_234 (fun H locs (I : Iw G A s (mW G o q (va_up (va_up (va_up (va_up (va_up S.1 14 ((nI (b + (23 + 6 * pp))))) 14 (nI (b + ((23 + 6 * pp) + 1)))) 14 (nI (b + ((24 + 6 * pp) + 1)))) 14 (nI (b + ((25 + 6 * pp) + 1)))) 15 ((nI ((pp + 1)))), va_up (va_up (va_up (va_up (va_up S.2 18 (upd (S.2 18) ((5 * pp)) (nI (0)))) 18 (upd (upd (S.2 18) ((5 * pp)) (nI (0))) (((5 * pp) + 1)) (nI (y101)))) 18 (upd (upd (upd (S.2 18) ((5 * pp)) (nI (0))) (((5 * pp) + 1)) (nI (y101))) (((5 * pp) + 2)) (nI (y162)))) 18 (upd (upd (upd (upd (S.2 18) ((5 * pp)) (nI (0))) (((5 * pp) + 1)) (nI (y101))) (((5 * pp) + 2)) (nI (y162))) (((5 * pp) + 3)) (nI (y192)))) 18 (upd (upd (upd (upd (upd (S.2 18) ((5 * pp)) (nI (0))) (((5 * pp) + 1)) (nI (y101))) (((5 * pp) + 2)) (nI (y162))) (((5 * pp) + 3)) (nI (y192))) (((5 * pp) + 4)) ((-9))))) H locs) => ?_)
                  refine lv_aload_n F.x F.b dX1_readPass_237 rfl (lv_at hl 2 rfl) ?_
                  refine m_geta F I 18 (by decide) q1173 dX1_readPass_238 ?_
                  refine lv_iload_n F.x F.b dX1_readPass_241 rfl (lv_at hl 1 rfl) ?_
                  refine lv_iconst (v := nI (4)) F.x F.b dX1_readPass_242 (by decide) ?_
                  refine n_iadd F dX1_readPass_243 ?_
                  refine m_ld (v := (-9)) F I 18 (by decide) (show ((5 * pp) + 4) < 30 by omega) (by exact pk_us) dX1_readPass_244 ?_
                  refine lv_bipush (v := (-9)) F.x F.b dX1_readPass_245 (by decide) ?_
                  refine lv_icmp_eq (x := (-9)) (y := (-9)) (tgt := 254) F.x F.b dX1_readPass_247 (by decide) (fun c_247 => ?_) (fun c_247 => absurd c_247 (by exact fun z9 => z9 rfl))
                  refine lv_iconst (v := nI (0)) F.x F.b dX1_readPass_254 (by decide) ?_
                  exact g_zret (u := (va_up (va_up (va_up (va_up (va_up S.1 14 ((nI (b + (23 + 6 * pp))))) 14 (nI (b + ((23 + 6 * pp) + 1)))) 14 (nI (b + ((24 + 6 * pp) + 1)))) 14 (nI (b + ((25 + 6 * pp) + 1)))) 15 ((nI ((pp + 1)))), va_up (va_up (va_up (va_up (va_up S.2 18 (upd (S.2 18) ((5 * pp)) (nI (0)))) 18 (upd (upd (S.2 18) ((5 * pp)) (nI (0))) (((5 * pp) + 1)) (nI (y101)))) 18 (upd (upd (upd (S.2 18) ((5 * pp)) (nI (0))) (((5 * pp) + 1)) (nI (y101))) (((5 * pp) + 2)) (nI (y162)))) 18 (upd (upd (upd (upd (S.2 18) ((5 * pp)) (nI (0))) (((5 * pp) + 1)) (nI (y101))) (((5 * pp) + 2)) (nI (y162))) (((5 * pp) + 3)) (nI (y192)))) 18 (upd (upd (upd (upd (upd (S.2 18) ((5 * pp)) (nI (0))) (((5 * pp) + 1)) (nI (y101))) (((5 * pp) + 2)) (nI (y162))) (((5 * pp) + 3)) (nI (y192))) (((5 * pp) + 4)) ((-9))))) F I (by first | exact bI_01 _ | exact Or.inl rfl | exact Or.inr rfl) (by exact Or.inr ⟨4, by omega, fun x h1 h2 => by rcases (show x = 22 + 6 * pp ∨ x = 23 + 6 * pp ∨ x = 24 + 6 * pp ∨ x = 25 + 6 * pp by omega) with rfl | rfl | rfl | rfl <;> assumption, fun z9 => by have h9 := z9.2.2; rw [show 22 + 6 * pp + 4 = 26 + 6 * pp by omega, chk_p5] at h9; exact hw223 ⟨by have := z9.1; omega, h9⟩, rfl, congrArg nI (by omega), by exact ⟨rfl, rfl, rfl, rfl, rfl, rfl, rfl, rfl, rfl, rfl, rfl, rfl, rfl, rfl, rfl, rfl, rfl⟩⟩) dX1_readPass_255 (by first | exact Nat.le_refl _ | decide) (by first | exact Nat.le_refl _ | decide)
              · skip
                refine m_st F I 18 (by decide) (show ((5 * pp) + 3) < 30 by omega) dX1_readPass_195 (fun H locs (I : Iw G A s (mW G o q (va_up (va_up (va_up S.1 14 ((nI (b + (23 + 6 * pp))))) 14 (nI (b + ((23 + 6 * pp) + 1)))) 14 (nI (b + ((24 + 6 * pp) + 1))), va_up (va_up (va_up (va_up S.2 18 (upd (S.2 18) ((5 * pp)) (nI (0)))) 18 (upd (upd (S.2 18) ((5 * pp)) (nI (0))) (((5 * pp) + 1)) (nI (y101)))) 18 (upd (upd (upd (S.2 18) ((5 * pp)) (nI (0))) (((5 * pp) + 1)) (nI (y101))) (((5 * pp) + 2)) (nI (y162)))) 18 (upd (upd (upd (upd (S.2 18) ((5 * pp)) (nI (0))) (((5 * pp) + 1)) (nI (y101))) (((5 * pp) + 2)) (nI (y162))) (((5 * pp) + 3)) ((-9))))) H locs) => ?_)
                refine lv_aload_n F.x F.b dX1_readPass_196 rfl (lv_at hl 2 rfl) ?_
                refine m_geta F I 18 (by decide) q1173 dX1_readPass_197 ?_
                refine lv_iload_n F.x F.b dX1_readPass_200 rfl (lv_at hl 1 rfl) ?_
                refine lv_iconst (v := nI (3)) F.x F.b dX1_readPass_201 (by decide) ?_
                refine n_iadd F dX1_readPass_202 ?_
                refine m_ld (v := (-9)) F I 18 (by decide) (show ((5 * pp) + 3) < 30 by omega) (by exact pk_us) dX1_readPass_203 ?_
                refine lv_bipush (v := (-9)) F.x F.b dX1_readPass_204 (by decide) ?_
                refine lv_icmp_ne (x := (-9)) (y := (-9)) (tgt := 211) F.x F.b dX1_readPass_206 (by decide) (fun c_206 => absurd c_206 (by exact fun z9 => z9 rfl)) (fun c_206 => ?_)
                refine lv_iconst (v := nI (0)) F.x F.b dX1_readPass_209 (by decide) ?_
                exact g_zret (u := (va_up (va_up (va_up S.1 14 ((nI (b + (23 + 6 * pp))))) 14 (nI (b + ((23 + 6 * pp) + 1)))) 14 (nI (b + ((24 + 6 * pp) + 1))), va_up (va_up (va_up (va_up S.2 18 (upd (S.2 18) ((5 * pp)) (nI (0)))) 18 (upd (upd (S.2 18) ((5 * pp)) (nI (0))) (((5 * pp) + 1)) (nI (y101)))) 18 (upd (upd (upd (S.2 18) ((5 * pp)) (nI (0))) (((5 * pp) + 1)) (nI (y101))) (((5 * pp) + 2)) (nI (y162)))) 18 (upd (upd (upd (upd (S.2 18) ((5 * pp)) (nI (0))) (((5 * pp) + 1)) (nI (y101))) (((5 * pp) + 2)) (nI (y162))) (((5 * pp) + 3)) ((-9))))) F I (by first | exact bI_01 _ | exact Or.inl rfl | exact Or.inr rfl) (by exact Or.inr ⟨3, by omega, fun x h1 h2 => by rcases (show x = 22 + 6 * pp ∨ x = 23 + 6 * pp ∨ x = 24 + 6 * pp by omega) with rfl | rfl | rfl <;> assumption, fun z9 => by have h9 := z9.2.2; rw [show 22 + 6 * pp + 3 = 25 + 6 * pp by omega, chk_p4] at h9; exact hw192 ⟨by have := z9.1; omega, h9⟩, rfl, congrArg nI (by omega), by exact ⟨rfl, rfl, rfl, rfl, rfl, rfl, rfl, rfl, rfl, rfl, rfl, rfl, rfl, rfl, rfl, rfl, rfl⟩⟩) dX1_readPass_210 (by first | exact Nat.le_refl _ | decide) (by first | exact Nat.le_refl _ | decide)
            · skip
              refine m_st F I 18 (by decide) (show ((5 * pp) + 2) < 30 by omega) dX1_readPass_165 (fun H locs (I : Iw G A s (mW G o q (va_up (va_up S.1 14 ((nI (b + (23 + 6 * pp))))) 14 (nI (b + ((23 + 6 * pp) + 1))), va_up (va_up (va_up S.2 18 (upd (S.2 18) ((5 * pp)) (nI (0)))) 18 (upd (upd (S.2 18) ((5 * pp)) (nI (0))) (((5 * pp) + 1)) (nI (y101)))) 18 (upd (upd (upd (S.2 18) ((5 * pp)) (nI (0))) (((5 * pp) + 1)) (nI (y101))) (((5 * pp) + 2)) ((-9))))) H locs) => ?_)
              refine lv_aload_n F.x F.b dX1_readPass_166 rfl (lv_at hl 2 rfl) ?_
              refine m_geta F I 18 (by decide) q1173 dX1_readPass_167 ?_
              refine lv_iload_n F.x F.b dX1_readPass_170 rfl (lv_at hl 1 rfl) ?_
              refine lv_iconst (v := nI (2)) F.x F.b dX1_readPass_171 (by decide) ?_
              refine n_iadd F dX1_readPass_172 ?_
              refine m_ld (v := (-9)) F I 18 (by decide) (show ((5 * pp) + 2) < 30 by omega) (by exact pk_us) dX1_readPass_173 ?_
              refine lv_bipush (v := (-9)) F.x F.b dX1_readPass_174 (by decide) ?_
              refine lv_icmp_ne (x := (-9)) (y := (-9)) (tgt := 181) F.x F.b dX1_readPass_176 (by decide) (fun c_176 => absurd c_176 (by exact fun z9 => z9 rfl)) (fun c_176 => ?_)
              refine lv_iconst (v := nI (0)) F.x F.b dX1_readPass_179 (by decide) ?_
              exact g_zret (u := (va_up (va_up S.1 14 ((nI (b + (23 + 6 * pp))))) 14 (nI (b + ((23 + 6 * pp) + 1))), va_up (va_up (va_up S.2 18 (upd (S.2 18) ((5 * pp)) (nI (0)))) 18 (upd (upd (S.2 18) ((5 * pp)) (nI (0))) (((5 * pp) + 1)) (nI (y101)))) 18 (upd (upd (upd (S.2 18) ((5 * pp)) (nI (0))) (((5 * pp) + 1)) (nI (y101))) (((5 * pp) + 2)) ((-9))))) F I (by first | exact bI_01 _ | exact Or.inl rfl | exact Or.inr rfl) (by exact Or.inr ⟨2, by omega, fun x h1 h2 => by rcases (show x = 22 + 6 * pp ∨ x = 23 + 6 * pp by omega) with rfl | rfl <;> assumption, fun z9 => by have h9 := z9.2.2; rw [show 22 + 6 * pp + 2 = 24 + 6 * pp by omega, chk_p3] at h9; exact hw162 ⟨by have := z9.1; omega, by rw [Bool.and_eq_true] at h9; exact h9.1⟩, rfl, congrArg nI (by omega), by exact ⟨rfl, rfl, rfl, rfl, rfl, rfl, rfl, rfl, rfl, rfl, rfl, rfl, rfl, rfl, rfl, rfl, rfl⟩⟩) dX1_readPass_180 (by first | exact Nat.le_refl _ | decide) (by first | exact Nat.le_refl _ | decide)
          · refine lv_iconst (v := nI (0)) F.x F.b dX1_readPass_149 (by decide) ?_
            exact g_zret (u := (va_up (va_up S.1 14 ((nI (b + (23 + 6 * pp))))) 14 (nI (b + ((23 + 6 * pp) + 1))), va_up (va_up S.2 18 (upd (S.2 18) ((5 * pp)) (nI (0)))) 18 (upd (upd (S.2 18) ((5 * pp)) (nI (0))) (((5 * pp) + 1)) (nI (y101))))) F I (by first | exact bI_01 _ | exact Or.inl rfl | exact Or.inr rfl) (by exact Or.inr ⟨2, by omega, fun x h1 h2 => by rcases (show x = 22 + 6 * pp ∨ x = 23 + 6 * pp by omega) with rfl | rfl <;> assumption, fun z9 => by have h9 := z9.2.2; rw [show 22 + 6 * pp + 2 = 24 + 6 * pp by omega, chk_p3] at h9; exact absurd (n48_eq c_146) (by rw [Bool.and_eq_true] at h9; intro h8; have h7 := h9.2; rw [Bool.not_eq_true', decide_eq_false_iff_not] at h7; exact h7 (h8.trans he101.symm)), rfl, congrArg nI (by omega), by exact ⟨rfl, rfl, rfl, rfl, rfl, rfl, rfl, rfl, rfl, rfl, rfl, rfl, rfl, rfl, rfl, rfl, rfl⟩⟩) dX1_readPass_150 (by first | exact Nat.le_refl _ | decide) (by first | exact Nat.le_refl _ | decide)
      · skip
        refine m_st F I 18 (by decide) (show ((5 * pp) + 1) < 30 by omega) dX1_readPass_104 (fun H locs (I : Iw G A s (mW G o q (va_up S.1 14 ((nI (b + (23 + 6 * pp)))), va_up (va_up S.2 18 (upd (S.2 18) ((5 * pp)) (nI (0)))) 18 (upd (upd (S.2 18) ((5 * pp)) (nI (0))) (((5 * pp) + 1)) ((-9))))) H locs) => ?_)
        refine lv_aload_n F.x F.b dX1_readPass_105 rfl (lv_at hl 2 rfl) ?_
        refine m_geta F I 18 (by decide) q1173 dX1_readPass_106 ?_
        refine lv_iload_n F.x F.b dX1_readPass_109 rfl (lv_at hl 1 rfl) ?_
        refine lv_iconst (v := nI (1)) F.x F.b dX1_readPass_110 (by decide) ?_
        refine n_iadd F dX1_readPass_111 ?_
        refine m_ld (v := (-9)) F I 18 (by decide) (show ((5 * pp) + 1) < 30 by omega) (by exact pk_us) dX1_readPass_112 ?_
        refine lv_bipush (v := (-9)) F.x F.b dX1_readPass_113 (by decide) ?_
        refine lv_icmp_eq (x := (-9)) (y := (-9)) (tgt := 149) F.x F.b dX1_readPass_115 (by decide) (fun c_115 => ?_) (fun c_115 => absurd c_115 (by exact fun z9 => z9 rfl))
        refine lv_iconst (v := nI (0)) F.x F.b dX1_readPass_149 (by decide) ?_
        exact g_zret (u := (va_up S.1 14 ((nI (b + (23 + 6 * pp)))), va_up (va_up S.2 18 (upd (S.2 18) ((5 * pp)) (nI (0)))) 18 (upd (upd (S.2 18) ((5 * pp)) (nI (0))) (((5 * pp) + 1)) ((-9))))) F I (by first | exact bI_01 _ | exact Or.inl rfl | exact Or.inr rfl) (by exact Or.inr ⟨1, by omega, fun x h1 h2 => by rw [show x = 22 + 6 * pp by omega]; exact st0, fun z9 => by have h9 := z9.2.2; rw [show 22 + 6 * pp + 1 = 23 + 6 * pp by omega, chk_p2] at h9; exact hw101 ⟨by have := z9.1; omega, h9⟩, rfl, congrArg nI (by omega), by exact ⟨rfl, rfl, rfl, rfl, rfl, rfl, rfl, rfl, rfl, rfl, rfl, rfl, rfl, rfl, rfl, rfl, rfl⟩⟩) dX1_readPass_150 (by first | exact Nat.le_refl _ | decide) (by first | exact Nat.le_refl _ | decide)
