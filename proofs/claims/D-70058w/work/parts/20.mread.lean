/-! THE REFERENCE: a land out of signs, taken -/
set_option maxRecDepth 100000
/-- what has been read: d days, v valleys, p passes -/
def rdS (S : MS) (f : Nat → Int32) (d : Nat) : Prop := ∀ x, x < d → S.2 16 x = nI (dv f (1 + x)) ∧ dv f (1 + x) ≤ 9
def rdG (S : MS) (f : Nat → Int32) (v : Nat) : Prop := ∀ x, x < v → S.2 17 x = nI (sv f x) ∧ sv f x ≤ 255
def rdP (S : MS) (f : Nat → Int32) (p : Nat) : Prop := ∀ x, x < p → (S.2 18 (5 * x) = nI (kdv f (22 + 6 * x)) ∧ S.2 18 (5 * x + 1) = nI (dv f (23 + 6 * x)) ∧ S.2 18 (5 * x + 2) = nI (dv f (24 + 6 * x)) ∧ S.2 18 (5 * x + 3) = nI (dv f (25 + 6 * x)) ∧ S.2 18 (5 * x + 4) = nI (dv f (26 + 6 * x))) ∧ kdv f (22 + 6 * x) ≤ 2 ∧ dv f (23 + 6 * x) ≤ 2 ∧ dv f (24 + 6 * x) ≤ 2 ∧ 1 ≤ dv f (25 + 6 * x) ∧ dv f (25 + 6 * x) ≤ 3 ∧ dv f (26 + 6 * x) ≤ 9
def okTo (f : Nat → Int32) (n t : Nat) : Prop := ∀ u, u < t → stp f n u
theorem okTo.s {f : Nat → Int32} {n t : Nat} (h : okTo f n t) (k : stp f n t) : okTo f n (t + 1) := fun u hu => by
  rcases Nat.lt_or_ge u t with h1 | h1
  · exact h u h1
  · rw [show u = t by omega]; exact k
theorem okTo.r {f : Nat → Int32} {n t k u : Nat} (h : okTo f n t) (hk : ∀ x, t ≤ x → x < t + k → stp f n x) (e : u = t + k) : okTo f n u := fun x hx => by
  rcases Nat.lt_or_ge x t with h1 | h1
  · exact h x h1
  · exact hk x h1 (by omega)
theorem fT_keep {S S1 : MS} {b : Nat} (h : mKeep S S1) : fT S1 b = fT S b := by unfold fT; rw [h.2.2.2.2.2.2.2.1]
theorem rdP_s {S S1 : MS} {f : Nat → Int32} {p : Nat} (h : rdP S f p) (e : S1.2 18 = up5 (S.2 18) (5 * p) (nI (kdv f (22 + 6 * p))) (nI (dv f (23 + 6 * p))) (nI (dv f (24 + 6 * p))) (nI (dv f (25 + 6 * p))) (nI (dv f (26 + 6 * p)))) (b : kdv f (22 + 6 * p) ≤ 2 ∧ dv f (23 + 6 * p) ≤ 2 ∧ dv f (24 + 6 * p) ≤ 2 ∧ 1 ≤ dv f (25 + 6 * p) ∧ dv f (25 + 6 * p) ≤ 3 ∧ dv f (26 + 6 * p) ≤ 9) : rdP S1 f (p + 1) := by
  intro x hx
  rw [e]
  rcases Nat.lt_or_ge x p with h1 | h1
  · rw [up5_n (by omega), up5_n (by omega), up5_n (by omega), up5_n (by omega), up5_n (by omega)]; exact h x h1
  · rw [show x = p by omega]; exact ⟨up5_v, b⟩

theorem rdS_s {S : MS} {f : Nat → Int32} {d y : Nat} {z : Int32} (h : rdS S f d) (e : f (1 + d) = nI (48 + y)) (hy : y ≤ 9) : rdS (va_up S.1 14 z, va_up S.2 16 (upd (S.2 16) d (nI y))) f (d + 1) := by
  intro x hx
  show upd (S.2 16) d (nI y) x = nI (dv f (1 + x)) ∧ dv f (1 + x) ≤ 9
  unfold upd
  rcases Nat.decEq x d with h1 | h1
  · rw [if_neg h1]; exact h x (by omega)
  · rw [if_pos h1, h1, dv_y e hy]; exact ⟨rfl, hy⟩
theorem rdG_s {S Z : MS} {f : Nat → Int32} {v y : Nat} (h : rdG S f v) (e17 : Z.2 17 = S.2 17) (e : sv f v = y) (hy : y ≤ 255) : rdG (Z.1, va_up Z.2 17 (upd (Z.2 17) v (nI y))) f (v + 1) := by
  intro x hx
  show upd (Z.2 17) v (nI y) x = nI (sv f x) ∧ sv f x ≤ 255
  unfold upd
  rcases Nat.decEq x v with h1 | h1
  · rw [if_neg h1, e17]; exact h x (by omega)
  · rw [if_pos h1, h1, e]; exact ⟨rfl, hy⟩
theorem hd_mt_readLand : yX1_readLand.cls = RX1 ∧ yX1_readLand.cls ≠ "java/lang/invoke/MethodHandle" ∧ yX1_readLand.cls ≠ "java/lang/invoke/VarHandle" ∧ (parseMethodDescriptor yX1_readLand.desc).map (fun d => d.parameters.length) = some 1 := by decide +kernel
set_option maxHeartbeats 4000000 in
theorem mt_readLand (l : Launch) (G : gG) (o : Nat) (q : Nat → Nat) (S : MS) (en : Nat) (b n : Nat) (hen : en = b + n) (hbn : b + n ≤ 240) (hat0 : S.1 14 = nI (b + 0)) : gMi l yX1_readLand cX1_readLand 3 (some .boolean) ({ frames := 3, cells := 0, slots := 0, locals := 69 } : Room) G [.ref o, .int (nI (en))] (mW G o q S) (fun S' => mW G o q S') (fun ρ S' => (∃ np, okLen n ∧ isEnd (fT S b) n n ∧ n = 21 + 6 * np ∧ 1 ≤ np ∧ np ≤ 6 ∧ bI true = ρ ∧ S'.1 15 = nI np ∧ rdS S' (fT S b) 8 ∧ rdG S' (fT S b) 3 ∧ rdP S' (fT S b) np ∧ mKeep S S') ∨ (∃ t, isEnd (fT S b) n t ∧ t ≤ 60 ∧ ¬ (t = n ∧ okLen n) ∧ bI false = ρ ∧ S'.1 14 = nI (b + t) ∧ mKeep S S')) := by
  refine gMi_of (by decide) (Nat.le_of_ble_eq_true rfl) ?_
  intro p e s m below meth c ls A F I hl
  have hl : lv_has ls 3 [(0, .ref (o)), (1, .int (nI (en)))] := hl
  refine lv_aload_n F.x F.b dX1_readLand_0 rfl (lv_at hl 0 rfl) ?_
  refine lv_iconst (v := nI (0)) F.x F.b dX1_readLand_1 (by decide) ?_
  refine m_put F I 15 (by decide) q1170 dX1_readLand_2 (fun H locs (I : Iw G A s (mW G o q (va_up S.1 15 (0), S.2)) H locs) => ?_)
  refine lv_aload_n F.x F.b dX1_readLand_5 rfl (lv_at hl 0 rfl) ?_
  refine lv_iload_n F.x F.b dX1_readLand_6 rfl (lv_at hl 1 rfl) ?_
  refine lv_bipush (v := nI (118)) F.x F.b dX1_readLand_7 (by decide) ?_
  refine g_calli I (g_runV (n := 2) (ci := 0) (q0 := 0) (As := [.int (nI (en)), .int (nI (118))]) (rest := []) F I (mt_isSign l G o q ((va_up S.1 15 (0), S.2)) (en) (118) b 0 n (by omega) (by omega) (by exact hat0) (by omega) _) q1268 q1270 qs29 q56 q1271 hd_mt_isSign ⟨Nat.le_of_ble_eq_true rfl, Nat.le_of_ble_eq_true rfl⟩ rfl rfl rfl rfl hl.1 rfl (lv_room (Nat.le_of_ble_eq_true rfl)) dX1_readLand_9 ⟨by first | exact Nat.le_refl _ | decide, by first | exact Nat.le_refl _ | decide⟩) (fun r Z9 H locs hp I => ?_)
  rcases hp with ⟨hn9, he9, rfl, rfl⟩ | ⟨hw9, rfl, rfl⟩
  · skip
    refine z_ne (tgt := 17) F dX1_readLand_12 (by decide) (fun c_12 => ?_) (fun c_12 => absurd c_12 (by decide))
    refine lv_iconst (v := nI (0)) F.x F.b dX1_readLand_17 (by decide) ?_
    refine lv_istore_n (lv' := [(2, .int (nI (0))), (0, .ref (o)), (1, .int (nI (en)))]) F.x F.b dX1_readLand_18 rfl hl (by decide) rfl (fun ls hl => ?_)
    refine W_ind 19 (fun _ => []) (fun n_J => n_J) (fun n_J H locs ls => ∃ (d : Nat) (S1 : MS), n_J = 8 - d ∧ (d ≤ 8) ∧ (mKeep S S1) ∧ (S1.1 14 = nI (b + (1 + d))) ∧ (S1.1 15 = nI 0) ∧ (okTo (fT S b) n (1 + d)) ∧ (rdS S1 (fT S b) d) ∧  Iw G A s (mW G o q S1) H locs ∧ lv_has ls 3 [(0, .ref (o)), (1, .int (nI (en))), (2, .int (nI (d)))]) ?_ _ ⟨0, (va_up (va_up S.1 15 (0)) 14 (nI (b + (0 + 1))), S.2), rfl, by omega, by exact ⟨rfl, rfl, rfl, rfl, rfl, rfl, rfl, rfl, rfl, rfl, rfl, rfl, rfl, rfl, rfl, rfl, rfl⟩, by rfl, by rfl, by exact fun u hu => by rw [show u = 0 by omega]; exact ⟨hn9, by omega, decide_eq_true he9⟩, by exact fun x hx => absurd hx (Nat.not_lt_zero _), I, lv_sub hl [1, 2, 0] rfl⟩
    intro n19 H locs ls hJ ih19
    obtain ⟨d, S1, hn19, hd, hk1, hat, hrm, hok, hrS, I, hl⟩ := hJ
    have hfT : fT S1 b = fT S b := fT_keep hk1
    refine lv_iload_n F.x F.b dX1_readLand_19 rfl (lv_at hl 2 rfl) ?_
    refine lv_bipush (v := nI (8)) F.x F.b dX1_readLand_20 (by decide) ?_
    refine n_icmp_ge (tgt := 58) F (by omega) (by omega) dX1_readLand_22 (by decide) (fun c_22 => ?_) (fun c_22 => ?_)
    · refine lv_iconst (v := nI (0)) F.x F.b dX1_readLand_58 (by decide) ?_
      refine lv_istore_n (lv' := [(2, .int (nI (0))), (0, .ref (o)), (1, .int (nI (en)))]) F.x F.b dX1_readLand_59 rfl hl (by decide) rfl (fun ls hl => ?_)
      refine W_ind 60 (fun _ => []) (fun n_J => n_J) (fun n_J H locs ls => ∃ (v : Nat) (S1 : MS), n_J = 3 - v ∧ (v ≤ 3) ∧ (mKeep S S1) ∧ (S1.1 14 = nI (b + (9 + 4 * v))) ∧ (S1.1 15 = nI 0) ∧ (okTo (fT S b) n (9 + 4 * v)) ∧ (rdS S1 (fT S b) 8) ∧ (rdG S1 (fT S b) v) ∧  Iw G A s (mW G o q S1) H locs ∧ lv_has ls 3 [(0, .ref (o)), (1, .int (nI (en))), (2, .int (nI (v)))]) ?_ _ ⟨0, S1, rfl, by omega, by exact hk1, by rw [hat]; exact congrArg nI (by omega), by exact hrm, by rw [show 9 + 4 * 0 = 1 + d by omega]; exact hok, by rw [← show d = 8 by omega]; exact hrS, by exact fun x hx => absurd hx (Nat.not_lt_zero _), I, lv_sub hl [1, 2, 0] rfl⟩
      intro n60 H locs ls hJ ih60
      obtain ⟨v, S1, hn60, hv, hk1, hat, hrm, hok, hrS, hrG, I, hl⟩ := hJ
      have hfT : fT S1 b = fT S b := fT_keep hk1
      refine lv_iload_n F.x F.b dX1_readLand_60 rfl (lv_at hl 2 rfl) ?_
      refine lv_iconst (v := nI (3)) F.x F.b dX1_readLand_61 (by decide) ?_
      refine n_icmp_ge (tgt := 107) F (by omega) (by omega) dX1_readLand_62 (by decide) (fun c_62 => ?_) (fun c_62 => ?_)
      · refine W_ind 107 (fun _ => []) (fun n_J => n_J) (fun n_J H locs ls => ∃ (pp : Nat) (S1 : MS), n_J = 6 - pp ∧ (pp ≤ 6) ∧ (mKeep S S1) ∧ (S1.1 14 = nI (b + (21 + 6 * pp))) ∧ (S1.1 15 = nI pp) ∧ (okTo (fT S b) n (21 + 6 * pp)) ∧ (rdS S1 (fT S b) 8) ∧ (rdG S1 (fT S b) 3) ∧ (rdP S1 (fT S b) pp) ∧  Iw G A s (mW G o q S1) H locs ∧ lv_has ls 3 [(0, .ref (o)), (1, .int (nI (en)))]) ?_ _ ⟨0, S1, rfl, by omega, by exact hk1, by rw [hat]; exact congrArg nI (by omega), by exact hrm, by rw [show 21 + 6 * 0 = 9 + 4 * v by omega]; exact hok, by exact hrS, by rw [← show v = 3 by omega]; exact hrG, by exact fun x hx => absurd hx (Nat.not_lt_zero _), I, lv_sub hl [0, 1] rfl⟩
        intro n107 H locs ls hJ ih107
        obtain ⟨pp, S1, hn107, hp6, hk1, hat, hrm, hok, hrS, hrG, hrP, I, hl⟩ := hJ
        have hfT : fT S1 b = fT S b := fT_keep hk1
        refine lv_aload_n F.x F.b dX1_readLand_107 rfl (lv_at hl 0 rfl) ?_
        refine m_get (v := (S1.1 15)) F I 15 (by decide) rfl q1170 dX1_readLand_108 ?_
        refine W.val (y := nI (pp)) (by exact hrm) ?_
        refine n_if_eq (tgt := 131) F (by omega) dX1_readLand_111 (by decide) (fun c_111 => ?_) (fun c_111 => ?_)
        · refine lv_aload_n F.x F.b dX1_readLand_131 rfl (lv_at hl 0 rfl) ?_
          refine lv_iload_n F.x F.b dX1_readLand_132 rfl (lv_at hl 1 rfl) ?_
          refine lv_bipush (v := nI (44)) F.x F.b dX1_readLand_133 (by decide) ?_
          refine g_calli I (g_runV (n := 2) (ci := 0) (q0 := 0) (As := [.int (nI (en)), .int (nI (44))]) (rest := []) F I (mt_isSign l G o q (S1) (en) (44) b (21 + 6 * pp) n (by omega) (by omega) (by exact hat) (by omega) _) q1268 q1270 qs29 q56 q1271 hd_mt_isSign ⟨Nat.le_of_ble_eq_true rfl, Nat.le_of_ble_eq_true rfl⟩ rfl rfl rfl rfl hl.1 rfl (lv_room (Nat.le_of_ble_eq_true rfl)) dX1_readLand_135 ⟨by first | exact Nat.le_refl _ | decide, by first | exact Nat.le_refl _ | decide⟩) (fun r Z135 H locs hp I => ?_)
          rcases hp with ⟨hn135, he135, rfl, rfl⟩ | ⟨hw135, rfl, rfl⟩
          · skip
            refine z_eq (tgt := 149) F dX1_readLand_138 (by decide) (fun c_138 => absurd c_138 (by decide)) (fun c_138 => ?_)
            have st9 : stp (fT S b) n (21 + 6 * pp) := ⟨hn135, by omega, by rw [chk_p0, ← hfT]; exact decide_eq_true he135⟩
            refine lv_aload_n F.x F.b dX1_readLand_141 rfl (lv_at hl 0 rfl) ?_
            refine lv_iload_n F.x F.b dX1_readLand_142 rfl (lv_at hl 1 rfl) ?_
            refine g_calli I (g_runV (n := 1) (ci := 0) (q0 := 0) (As := [.int (nI (en))]) (rest := []) F I (mt_readPass l G o q ((va_up S1.1 14 (nI (b + ((21 + 6 * pp) + 1))), S1.2)) (en) b pp n (by omega) (by omega) (by exact congrArg nI (by omega)) (by exact hrm) (by omega) _) q1280 q1282 qs32 q56 q1283 hd_mt_readPass ⟨Nat.le_of_ble_eq_true rfl, Nat.le_of_ble_eq_true rfl⟩ rfl rfl rfl rfl hl.1 rfl (lv_room (Nat.le_of_ble_eq_true rfl)) dX1_readLand_143 ⟨by first | exact Nat.le_refl _ | decide, by first | exact Nat.le_refl _ | decide⟩) (fun r Z143 H locs hp I => ?_)
            rcases hp with ⟨hst143, rfl, ha143, hr143, h16143, h17143, h18143, hb1143, hb2143, hb3143, hb4143, hb5143, hb6143, hm143⟩ | ⟨u143, hu143, hst143, hns143, rfl, ha143, hm143⟩
            · skip
              rw [show fT (va_up S1.1 14 (nI (b + (21 + 6 * pp + 1))), S1.2) b = fT S b from hfT] at hst143 h18143 hb1143 hb2143 hb3143 hb4143 hb5143 hb6143
              refine z_ne (tgt := 107) F dX1_readLand_146 (by decide) (fun c_146 => ?_) (fun c_146 => absurd c_146 (by decide))
              exact ih107 _ _ _ _ (by omega) ⟨pp + 1, Z143, rfl, by omega, by exact hk1.tr (mKeep.tr (by exact ⟨rfl, rfl, rfl, rfl, rfl, rfl, rfl, rfl, rfl, rfl, rfl, rfl, rfl, rfl, rfl, rfl, rfl⟩) hm143), by exact ha143.trans (congrArg nI (by omega)), by exact hr143, by exact (hok.s st9).r (k := 5) (fun x h1 h2 => hst143 x (by omega) (by omega)) (by omega), by exact fun x hx => (show S1.2 16 = Z143.2 16 from h16143.symm) ▸ hrS x hx, by exact fun x hx => (show S1.2 17 = Z143.2 17 from h17143.symm) ▸ hrG x hx, by exact rdP_s hrP h18143 ⟨hb1143, hb2143, hb3143, hb4143, hb5143, hb6143⟩, I, lv_sub hl [0, 1] rfl⟩
            · skip
              rw [show fT (va_up S1.1 14 (nI (b + (21 + 6 * pp + 1))), S1.2) b = fT S b from hfT] at hst143 hns143
              refine z_ne (tgt := 107) F dX1_readLand_146 (by decide) (fun c_146 => absurd c_146 (by decide)) (fun c_146 => ?_)
              refine lv_iconst (v := nI (0)) F.x F.b dX1_readLand_149 (by decide) ?_
              exact g_zret (u := Z143) F I (by first | exact bI_01 _ | exact Or.inl rfl | exact Or.inr rfl) (by exact Or.inr ⟨22 + 6 * pp + u143, ⟨(hok.s st9).r (k := u143) (fun x h1 h2 => hst143 x (by omega) (by omega)) (by omega), hns143⟩, by omega, by unfold okLen; omega, rfl, ha143, hk1.tr (mKeep.tr (by exact ⟨rfl, rfl, rfl, rfl, rfl, rfl, rfl, rfl, rfl, rfl, rfl, rfl, rfl, rfl, rfl, rfl, rfl⟩) hm143)⟩) dX1_readLand_150 (by first | exact Nat.le_refl _ | decide) (by first | exact Nat.le_refl _ | decide)
          · skip
            refine z_eq (tgt := 149) F dX1_readLand_138 (by decide) (fun c_138 => ?_) (fun c_138 => absurd c_138 (by decide))
            refine lv_iconst (v := nI (0)) F.x F.b dX1_readLand_149 (by decide) ?_
            exact g_zret (u := S1) F I (by first | exact bI_01 _ | exact Or.inl rfl | exact Or.inr rfl) (by exact Or.inr ⟨21 + 6 * pp, ⟨hok, fun z9 => hw135 ⟨z9.1, by have h9 := z9.2.2; rw [chk_p0, ← hfT] at h9; exact of_decide_eq_true h9⟩⟩, by omega, by unfold okLen; omega, rfl, hat, hk1⟩) dX1_readLand_150 (by first | exact Nat.le_refl _ | decide) (by first | exact Nat.le_refl _ | decide)
        · refine lv_aload_n F.x F.b dX1_readLand_114 rfl (lv_at hl 0 rfl) ?_
          refine m_get (v := (S1.1 15)) F I 15 (by decide) rfl q1170 dX1_readLand_115 ?_
          refine W.val (y := nI (pp)) (by exact hrm) ?_
          refine lv_bipush (v := nI (6)) F.x F.b dX1_readLand_118 (by decide) ?_
          refine n_icmp_ge (tgt := 151) F (by omega) (by omega) dX1_readLand_120 (by decide) (fun c_120 => ?_) (fun c_120 => ?_)
          · refine lv_aload_n F.x F.b dX1_readLand_151 rfl (lv_at hl 0 rfl) ?_
            refine m_get (v := (S1.1 14)) F I 14 (by decide) rfl q1169 dX1_readLand_152 ?_
            refine W.val (y := nI (b + (21 + 6 * pp))) (by exact hat) ?_
            refine lv_iload_n F.x F.b dX1_readLand_155 rfl (lv_at hl 1 rfl) ?_
            refine n_icmp_ne (tgt := 163) F (by omega) (by omega) dX1_readLand_156 (by decide) (fun c_156 => ?_) (fun c_156 => ?_)
            · refine lv_iconst (v := nI (0)) F.x F.b dX1_readLand_163 (by decide) ?_
              exact g_zret (u := S1) F I (by first | exact bI_01 _ | exact Or.inl rfl | exact Or.inr rfl) (by exact Or.inr ⟨21 + 6 * pp, ⟨hok, fun z9 => by have := z9.1; have := z9.2.1; omega⟩, by omega, by unfold okLen; omega, rfl, hat, hk1⟩) dX1_readLand_164 (by first | exact Nat.le_refl _ | decide) (by first | exact Nat.le_refl _ | decide)
            · refine lv_iconst (v := nI (1)) F.x F.b dX1_readLand_159 (by decide) ?_
              refine lv_goto (tgt := 164) F.x F.b dX1_readLand_160 (by decide) ?_
              exact g_zret (u := S1) F I (by first | exact bI_01 _ | exact Or.inl rfl | exact Or.inr rfl) (by exact Or.inl ⟨pp, by unfold okLen; omega, ⟨by rw [show n = 21 + 6 * pp by omega]; exact fun u hu => by have h9 := hok u hu; rw [show n = 21 + 6 * pp by omega] at h9; exact h9, fun z9 => by have := z9.1; omega⟩, by omega, by omega, hp6, rfl, hrm, hrS, hrG, hrP, hk1⟩) dX1_readLand_164 (by first | exact Nat.le_refl _ | decide) (by first | exact Nat.le_refl _ | decide)
          · refine lv_aload_n F.x F.b dX1_readLand_123 rfl (lv_at hl 0 rfl) ?_
            refine m_get (v := (S1.1 14)) F I 14 (by decide) rfl q1169 dX1_readLand_124 ?_
            refine W.val (y := nI (b + (21 + 6 * pp))) (by exact hat) ?_
            refine lv_iload_n F.x F.b dX1_readLand_127 rfl (lv_at hl 1 rfl) ?_
            refine n_icmp_ge (tgt := 151) F (by omega) (by omega) dX1_readLand_128 (by decide) (fun c_128 => ?_) (fun c_128 => ?_)
            · refine lv_aload_n F.x F.b dX1_readLand_151 rfl (lv_at hl 0 rfl) ?_
              refine m_get (v := (S1.1 14)) F I 14 (by decide) rfl q1169 dX1_readLand_152 ?_
              refine W.val (y := nI (b + (21 + 6 * pp))) (by exact hat) ?_
              refine lv_iload_n F.x F.b dX1_readLand_155 rfl (lv_at hl 1 rfl) ?_
              refine n_icmp_ne (tgt := 163) F (by omega) (by omega) dX1_readLand_156 (by decide) (fun c_156 => ?_) (fun c_156 => ?_)
              · refine lv_iconst (v := nI (0)) F.x F.b dX1_readLand_163 (by decide) ?_
                exact g_zret (u := S1) F I (by first | exact bI_01 _ | exact Or.inl rfl | exact Or.inr rfl) (by exact Or.inr ⟨21 + 6 * pp, ⟨hok, fun z9 => by have := z9.1; have := z9.2.1; omega⟩, by omega, by unfold okLen; omega, rfl, hat, hk1⟩) dX1_readLand_164 (by first | exact Nat.le_refl _ | decide) (by first | exact Nat.le_refl _ | decide)
              · refine lv_iconst (v := nI (1)) F.x F.b dX1_readLand_159 (by decide) ?_
                refine lv_goto (tgt := 164) F.x F.b dX1_readLand_160 (by decide) ?_
                exact g_zret (u := S1) F I (by first | exact bI_01 _ | exact Or.inl rfl | exact Or.inr rfl) (by exact Or.inl ⟨pp, by unfold okLen; omega, ⟨by rw [show n = 21 + 6 * pp by omega]; exact fun u hu => by have h9 := hok u hu; rw [show n = 21 + 6 * pp by omega] at h9; exact h9, fun z9 => by have := z9.1; omega⟩, by omega, by omega, hp6, rfl, hrm, hrS, hrG, hrP, hk1⟩) dX1_readLand_164 (by first | exact Nat.le_refl _ | decide) (by first | exact Nat.le_refl _ | decide)
            · refine lv_aload_n F.x F.b dX1_readLand_131 rfl (lv_at hl 0 rfl) ?_
              refine lv_iload_n F.x F.b dX1_readLand_132 rfl (lv_at hl 1 rfl) ?_
              refine lv_bipush (v := nI (44)) F.x F.b dX1_readLand_133 (by decide) ?_
              refine g_calli I (g_runV (n := 2) (ci := 0) (q0 := 0) (As := [.int (nI (en)), .int (nI (44))]) (rest := []) F I (mt_isSign l G o q (S1) (en) (44) b (21 + 6 * pp) n (by omega) (by omega) (by exact hat) (by omega) _) q1268 q1270 qs29 q56 q1271 hd_mt_isSign ⟨Nat.le_of_ble_eq_true rfl, Nat.le_of_ble_eq_true rfl⟩ rfl rfl rfl rfl hl.1 rfl (lv_room (Nat.le_of_ble_eq_true rfl)) dX1_readLand_135 ⟨by first | exact Nat.le_refl _ | decide, by first | exact Nat.le_refl _ | decide⟩) (fun r Z135 H locs hp I => ?_)
              rcases hp with ⟨hn135, he135, rfl, rfl⟩ | ⟨hw135, rfl, rfl⟩
              · skip
                refine z_eq (tgt := 149) F dX1_readLand_138 (by decide) (fun c_138 => absurd c_138 (by decide)) (fun c_138 => ?_)
                have st9 : stp (fT S b) n (21 + 6 * pp) := ⟨hn135, by omega, by rw [chk_p0, ← hfT]; exact decide_eq_true he135⟩
                refine lv_aload_n F.x F.b dX1_readLand_141 rfl (lv_at hl 0 rfl) ?_
                refine lv_iload_n F.x F.b dX1_readLand_142 rfl (lv_at hl 1 rfl) ?_
                refine g_calli I (g_runV (n := 1) (ci := 0) (q0 := 0) (As := [.int (nI (en))]) (rest := []) F I (mt_readPass l G o q ((va_up S1.1 14 (nI (b + ((21 + 6 * pp) + 1))), S1.2)) (en) b pp n (by omega) (by omega) (by exact congrArg nI (by omega)) (by exact hrm) (by omega) _) q1280 q1282 qs32 q56 q1283 hd_mt_readPass ⟨Nat.le_of_ble_eq_true rfl, Nat.le_of_ble_eq_true rfl⟩ rfl rfl rfl rfl hl.1 rfl (lv_room (Nat.le_of_ble_eq_true rfl)) dX1_readLand_143 ⟨by first | exact Nat.le_refl _ | decide, by first | exact Nat.le_refl _ | decide⟩) (fun r Z143 H locs hp I => ?_)
                rcases hp with ⟨hst143, rfl, ha143, hr143, h16143, h17143, h18143, hb1143, hb2143, hb3143, hb4143, hb5143, hb6143, hm143⟩ | ⟨u143, hu143, hst143, hns143, rfl, ha143, hm143⟩
                · skip
                  rw [show fT (va_up S1.1 14 (nI (b + (21 + 6 * pp + 1))), S1.2) b = fT S b from hfT] at hst143 h18143 hb1143 hb2143 hb3143 hb4143 hb5143 hb6143
                  refine z_ne (tgt := 107) F dX1_readLand_146 (by decide) (fun c_146 => ?_) (fun c_146 => absurd c_146 (by decide))
                  exact ih107 _ _ _ _ (by omega) ⟨pp + 1, Z143, rfl, by omega, by exact hk1.tr (mKeep.tr (by exact ⟨rfl, rfl, rfl, rfl, rfl, rfl, rfl, rfl, rfl, rfl, rfl, rfl, rfl, rfl, rfl, rfl, rfl⟩) hm143), by exact ha143.trans (congrArg nI (by omega)), by exact hr143, by exact (hok.s st9).r (k := 5) (fun x h1 h2 => hst143 x (by omega) (by omega)) (by omega), by exact fun x hx => (show S1.2 16 = Z143.2 16 from h16143.symm) ▸ hrS x hx, by exact fun x hx => (show S1.2 17 = Z143.2 17 from h17143.symm) ▸ hrG x hx, by exact rdP_s hrP h18143 ⟨hb1143, hb2143, hb3143, hb4143, hb5143, hb6143⟩, I, lv_sub hl [0, 1] rfl⟩
                · skip
                  rw [show fT (va_up S1.1 14 (nI (b + (21 + 6 * pp + 1))), S1.2) b = fT S b from hfT] at hst143 hns143
                  refine z_ne (tgt := 107) F dX1_readLand_146 (by decide) (fun c_146 => absurd c_146 (by decide)) (fun c_146 => ?_)
                  refine lv_iconst (v := nI (0)) F.x F.b dX1_readLand_149 (by decide) ?_
                  exact g_zret (u := Z143) F I (by first | exact bI_01 _ | exact Or.inl rfl | exact Or.inr rfl) (by exact Or.inr ⟨22 + 6 * pp + u143, ⟨(hok.s st9).r (k := u143) (fun x h1 h2 => hst143 x (by omega) (by omega)) (by omega), hns143⟩, by omega, by unfold okLen; omega, rfl, ha143, hk1.tr (mKeep.tr (by exact ⟨rfl, rfl, rfl, rfl, rfl, rfl, rfl, rfl, rfl, rfl, rfl, rfl, rfl, rfl, rfl, rfl, rfl⟩) hm143)⟩) dX1_readLand_150 (by first | exact Nat.le_refl _ | decide) (by first | exact Nat.le_refl _ | decide)
              · skip
                refine z_eq (tgt := 149) F dX1_readLand_138 (by decide) (fun c_138 => ?_) (fun c_138 => absurd c_138 (by decide))
                refine lv_iconst (v := nI (0)) F.x F.b dX1_readLand_149 (by decide) ?_
                exact g_zret (u := S1) F I (by first | exact bI_01 _ | exact Or.inl rfl | exact Or.inr rfl) (by exact Or.inr ⟨21 + 6 * pp, ⟨hok, fun z9 => hw135 ⟨z9.1, by have h9 := z9.2.2; rw [chk_p0, ← hfT] at h9; exact of_decide_eq_true h9⟩⟩, by omega, by unfold okLen; omega, rfl, hat, hk1⟩) dX1_readLand_150 (by first | exact Nat.le_refl _ | decide) (by first | exact Nat.le_refl _ | decide)
      · refine lv_aload_n F.x F.b dX1_readLand_65 rfl (lv_at hl 0 rfl) ?_
        refine lv_iload_n F.x F.b dX1_readLand_66 rfl (lv_at hl 1 rfl) ?_
        refine lv_bipush (v := nI (59)) F.x F.b dX1_readLand_67 (by decide) ?_
        refine g_calli I (g_runV (n := 2) (ci := 0) (q0 := 0) (As := [.int (nI (en)), .int (nI (59))]) (rest := []) F I (mt_isSign l G o q (S1) (en) (59) b (9 + 4 * v) n (by omega) (by omega) (by exact hat) (by omega) _) q1268 q1270 qs29 q56 q1271 hd_mt_isSign ⟨Nat.le_of_ble_eq_true rfl, Nat.le_of_ble_eq_true rfl⟩ rfl rfl rfl rfl hl.1 rfl (lv_room (Nat.le_of_ble_eq_true rfl)) dX1_readLand_69 ⟨by first | exact Nat.le_refl _ | decide, by first | exact Nat.le_refl _ | decide⟩) (fun r Z69 H locs hp I => ?_)
        rcases hp with ⟨hn69, he69, rfl, rfl⟩ | ⟨hw69, rfl, rfl⟩
        · skip
          refine z_ne (tgt := 77) F dX1_readLand_72 (by decide) (fun c_72 => ?_) (fun c_72 => absurd c_72 (by decide))
          have st9 : stp (fT S b) n (9 + 4 * v) := ⟨hn69, by omega, by rw [chk_v0 _ (by omega), ← hfT]; exact decide_eq_true he69⟩
          refine lv_aload_n F.x F.b dX1_readLand_77 rfl (lv_at hl 0 rfl) ?_
          refine m_geta F I 17 (by decide) q1172 dX1_readLand_78 ?_
          refine lv_iload_n F.x F.b dX1_readLand_81 rfl (lv_at hl 2 rfl) ?_
          refine lv_aload_n F.x F.b dX1_readLand_82 rfl (lv_at hl 0 rfl) ?_
          refine lv_iload_n F.x F.b dX1_readLand_83 rfl (lv_at hl 1 rfl) ?_
          refine g_calli I (g_runV (n := 1) (ci := 0) (q0 := 0) (As := [.int (nI (en))]) (rest := [.int (nI (v)), .ref (q 17)]) F I (mt_readSet l G o q ((va_up S1.1 14 (nI (b + ((9 + 4 * v) + 1))), S1.2)) (en) b v n (by omega) (by omega) (by exact congrArg nI (by omega)) (by omega) _) q1276 q1278 qs31 q56 q1279 hd_mt_readSet ⟨Nat.le_of_ble_eq_true rfl, Nat.le_of_ble_eq_true rfl⟩ rfl rfl rfl rfl hl.1 rfl (lv_room (Nat.le_of_ble_eq_true rfl)) dX1_readLand_84 ⟨by first | exact Nat.le_refl _ | decide, by first | exact Nat.le_refl _ | decide⟩) (fun r Z84 H locs hp I => ?_)
          rcases hp with ⟨y84, hy84, hs084, hs184, hs284, hsv84, rfl, ha84, hm84⟩ | ⟨u84, hu84, hst84, hns84, rfl, ha84, hm84⟩
          · skip
            rw [show fT (va_up S1.1 14 (nI (b + (9 + 4 * v + 1))), S1.2) b = fT S b from hfT] at hs084 hs184 hs284 hsv84
            refine m_st F I 17 (by decide) (show v < 3 by omega) dX1_readLand_87 (fun H locs (I : Iw G A s (mW G o q (Z84.1, va_up Z84.2 17 (upd (Z84.2 17) (v) (nI (y84))))) H locs) => ?_)
            refine lv_aload_n F.x F.b dX1_readLand_88 rfl (lv_at hl 0 rfl) ?_
            refine m_geta F I 17 (by decide) q1172 dX1_readLand_89 ?_
            refine lv_iload_n F.x F.b dX1_readLand_92 rfl (lv_at hl 2 rfl) ?_
            refine m_ld (v := nI (y84)) F I 17 (by decide) (show v < 3 by omega) (by exact pk_us) dX1_readLand_93 ?_
            refine lv_bipush (v := (-9)) F.x F.b dX1_readLand_94 (by decide) ?_
            refine lv_icmp_ne (x := (nI (y84))) (y := (-9)) (tgt := 101) F.x F.b dX1_readLand_96 (by decide) (fun c_96 => ?_) (fun c_96 => absurd c_96 (by exact nI_n9 _ (by omega)))
            refine lv_iinc (v := nI ((v + 1))) (lv' := [(2, .int (nI ((v + 1)))), (0, .ref (o)), (1, .int (nI (en)))]) F.x F.b dX1_readLand_101 hl (k := 2) rfl (nI_1 (v)) (by decide) rfl (fun ls hl => ?_)
            refine lv_goto (tgt := 60) F.x F.b dX1_readLand_104 (by decide) ?_
            exact ih60 _ _ _ _ (by omega) ⟨v + 1, (Z84.1, va_up Z84.2 17 (upd (Z84.2 17) (v) (nI (y84)))), rfl, by omega, by exact hk1.tr (mKeep.tr (by exact ⟨rfl, rfl, rfl, rfl, rfl, rfl, rfl, rfl, rfl, rfl, rfl, rfl, rfl, rfl, rfl, rfl, rfl⟩) (hm84.1.tr (by exact ⟨rfl, rfl, rfl, rfl, rfl, rfl, rfl, rfl, rfl, rfl, rfl, rfl, rfl, rfl, rfl, rfl, rfl⟩))), by exact ha84.trans (congrArg nI (by omega)), by exact hm84.2.1.trans hrm, by exact ((hok.s st9).r (k := 3) (fun x h1 h2 => by rcases (show x = 10 + 4 * v ∨ x = 11 + 4 * v ∨ x = 12 + 4 * v by omega) with rfl | rfl | rfl <;> assumption) (by omega)), by exact fun x hx => (show S1.2 16 = Z84.2 16 from hm84.2.2.1.symm) ▸ hrS x hx, by exact rdG_s hrG hm84.2.2.2.1 (by rw [← hsv84]) (by omega), I, lv_sub hl [1, 2, 0] rfl⟩
          · skip
            rw [show fT (va_up S1.1 14 (nI (b + (9 + 4 * v + 1))), S1.2) b = fT S b from hfT] at hst84 hns84
            refine m_st F I 17 (by decide) (show v < 3 by omega) dX1_readLand_87 (fun H locs (I : Iw G A s (mW G o q (Z84.1, va_up Z84.2 17 (upd (Z84.2 17) (v) ((-9))))) H locs) => ?_)
            refine lv_aload_n F.x F.b dX1_readLand_88 rfl (lv_at hl 0 rfl) ?_
            refine m_geta F I 17 (by decide) q1172 dX1_readLand_89 ?_
            refine lv_iload_n F.x F.b dX1_readLand_92 rfl (lv_at hl 2 rfl) ?_
            refine m_ld (v := (-9)) F I 17 (by decide) (show v < 3 by omega) (by exact pk_us) dX1_readLand_93 ?_
            refine lv_bipush (v := (-9)) F.x F.b dX1_readLand_94 (by decide) ?_
            refine lv_icmp_ne (x := (-9)) (y := (-9)) (tgt := 101) F.x F.b dX1_readLand_96 (by decide) (fun c_96 => absurd c_96 (by exact fun z9 => z9 rfl)) (fun c_96 => ?_)
            refine lv_iconst (v := nI (0)) F.x F.b dX1_readLand_99 (by decide) ?_
            exact g_zret (u := (Z84.1, va_up Z84.2 17 (upd (Z84.2 17) (v) ((-9))))) F I (by first | exact bI_01 _ | exact Or.inl rfl | exact Or.inr rfl) (by exact Or.inr ⟨10 + 4 * v + u84, ⟨(hok.s st9).r (k := u84) (fun x h1 h2 => hst84 x (by omega) (by omega)) (by omega), hns84⟩, by omega, by unfold okLen; omega, rfl, ha84, hk1.tr (mKeep.tr (by exact ⟨rfl, rfl, rfl, rfl, rfl, rfl, rfl, rfl, rfl, rfl, rfl, rfl, rfl, rfl, rfl, rfl, rfl⟩) (hm84.1.tr (by exact ⟨rfl, rfl, rfl, rfl, rfl, rfl, rfl, rfl, rfl, rfl, rfl, rfl, rfl, rfl, rfl, rfl, rfl⟩)))⟩) dX1_readLand_100 (by first | exact Nat.le_refl _ | decide) (by first | exact Nat.le_refl _ | decide)
        · skip
          refine z_ne (tgt := 77) F dX1_readLand_72 (by decide) (fun c_72 => absurd c_72 (by decide)) (fun c_72 => ?_)
          refine lv_iconst (v := nI (0)) F.x F.b dX1_readLand_75 (by decide) ?_
          exact g_zret (u := S1) F I (by first | exact bI_01 _ | exact Or.inl rfl | exact Or.inr rfl) (by exact Or.inr ⟨9 + 4 * v, ⟨hok, fun z9 => hw69 ⟨z9.1, by have h9 := z9.2.2; rw [chk_v0 _ (by omega), ← hfT] at h9; exact of_decide_eq_true h9⟩⟩, by omega, by unfold okLen; omega, rfl, hat, hk1⟩) dX1_readLand_76 (by first | exact Nat.le_refl _ | decide) (by first | exact Nat.le_refl _ | decide)
    · refine lv_aload_n F.x F.b dX1_readLand_25 rfl (lv_at hl 0 rfl) ?_
      refine m_geta F I 16 (by decide) q1171 dX1_readLand_26 ?_
      refine lv_iload_n F.x F.b dX1_readLand_29 rfl (lv_at hl 2 rfl) ?_
      refine lv_aload_n F.x F.b dX1_readLand_30 rfl (lv_at hl 0 rfl) ?_
      refine lv_iload_n F.x F.b dX1_readLand_31 rfl (lv_at hl 1 rfl) ?_
      refine lv_iconst (v := nI (0)) F.x F.b dX1_readLand_32 (by decide) ?_
      refine lv_bipush (v := nI (9)) F.x F.b dX1_readLand_33 (by decide) ?_
      refine g_calli I (g_runV (n := 3) (ci := 0) (q0 := 0) (As := [.int (nI (en)), .int (nI (0)), .int (nI (9))]) (rest := [.int (nI (d)), .ref (q 16)]) F I (mt_digit l G o q (S1) (en) (0) (9) b (1 + d) n (by omega) (by omega) (by exact hat) (by omega) (by omega) (by omega) _) q1272 q1274 qs30 q56 q1275 hd_mt_digit ⟨Nat.le_of_ble_eq_true rfl, Nat.le_of_ble_eq_true rfl⟩ rfl rfl rfl rfl hl.1 rfl (lv_room (Nat.le_of_ble_eq_true rfl)) dX1_readLand_35 ⟨by first | exact Nat.le_refl _ | decide, by first | exact Nat.le_refl _ | decide⟩) (fun r Z35 H locs hp I => ?_)
      rcases hp with ⟨y35, hl35, hh35, hn35, hw35, he35, rfl, rfl⟩ | ⟨hw35, rfl, rfl⟩
      · skip
        refine m_st F I 16 (by decide) (show d < 8 by omega) dX1_readLand_38 (fun H locs (I : Iw G A s (mW G o q (va_up S1.1 14 (nI (b + ((1 + d) + 1))), va_up S1.2 16 (upd (S1.2 16) (d) (nI (y35))))) H locs) => ?_)
        refine lv_aload_n F.x F.b dX1_readLand_39 rfl (lv_at hl 0 rfl) ?_
        refine m_geta F I 16 (by decide) q1171 dX1_readLand_40 ?_
        refine lv_iload_n F.x F.b dX1_readLand_43 rfl (lv_at hl 2 rfl) ?_
        refine m_ld (v := nI (y35)) F I 16 (by decide) (show d < 8 by omega) (by exact pk_us) dX1_readLand_44 ?_
        refine lv_bipush (v := (-9)) F.x F.b dX1_readLand_45 (by decide) ?_
        refine lv_icmp_ne (x := (nI (y35))) (y := (-9)) (tgt := 52) F.x F.b dX1_readLand_47 (by decide) (fun c_47 => ?_) (fun c_47 => absurd c_47 (by exact nI_n9 _ (by omega)))
        refine lv_iinc (v := nI ((d + 1))) (lv' := [(2, .int (nI ((d + 1)))), (0, .ref (o)), (1, .int (nI (en)))]) F.x F.b dX1_readLand_52 hl (k := 2) rfl (nI_1 (d)) (by decide) rfl (fun ls hl => ?_)
        refine lv_goto (tgt := 19) F.x F.b dX1_readLand_55 (by decide) ?_
        exact ih19 _ _ _ _ (by omega) ⟨d + 1, (va_up S1.1 14 (nI (b + ((1 + d) + 1))), va_up S1.2 16 (upd (S1.2 16) (d) (nI (y35)))), rfl, by omega, by exact hk1.tr (by exact ⟨rfl, rfl, rfl, rfl, rfl, rfl, rfl, rfl, rfl, rfl, rfl, rfl, rfl, rfl, rfl, rfl, rfl⟩), by exact congrArg nI (by omega), by exact hrm, by rw [show 1 + (d + 1) = 1 + d + 1 by omega]; exact hok.s ⟨hn35, by omega, by rw [chk_d _ (by omega), ← hfT]; exact hw35⟩, by exact rdS_s hrS (by rw [← hfT]; exact he35) (by omega), I, lv_sub hl [1, 2, 0] rfl⟩
      · skip
        refine m_st F I 16 (by decide) (show d < 8 by omega) dX1_readLand_38 (fun H locs (I : Iw G A s (mW G o q (S1.1, va_up S1.2 16 (upd (S1.2 16) (d) ((-9))))) H locs) => ?_)
        refine lv_aload_n F.x F.b dX1_readLand_39 rfl (lv_at hl 0 rfl) ?_
        refine m_geta F I 16 (by decide) q1171 dX1_readLand_40 ?_
        refine lv_iload_n F.x F.b dX1_readLand_43 rfl (lv_at hl 2 rfl) ?_
        refine m_ld (v := (-9)) F I 16 (by decide) (show d < 8 by omega) (by exact pk_us) dX1_readLand_44 ?_
        refine lv_bipush (v := (-9)) F.x F.b dX1_readLand_45 (by decide) ?_
        refine lv_icmp_ne (x := (-9)) (y := (-9)) (tgt := 52) F.x F.b dX1_readLand_47 (by decide) (fun c_47 => absurd c_47 (by exact fun z9 => z9 rfl)) (fun c_47 => ?_)
        refine lv_iconst (v := nI (0)) F.x F.b dX1_readLand_50 (by decide) ?_
        exact g_zret (u := (S1.1, va_up S1.2 16 (upd (S1.2 16) (d) ((-9))))) F I (by first | exact bI_01 _ | exact Or.inl rfl | exact Or.inr rfl) (by exact Or.inr ⟨1 + d, ⟨hok, fun z9 => hw35 ⟨z9.1, by have h9 := z9.2.2; rw [chk_d _ (by omega), ← hfT] at h9; exact h9⟩⟩, by omega, by unfold okLen; omega, rfl, hat, hk1.tr (by exact ⟨rfl, rfl, rfl, rfl, rfl, rfl, rfl, rfl, rfl, rfl, rfl, rfl, rfl, rfl, rfl, rfl, rfl⟩)⟩) dX1_readLand_51 (by first | exact Nat.le_refl _ | decide) (by first | exact Nat.le_refl _ | decide)
  · skip
    refine z_ne (tgt := 17) F dX1_readLand_12 (by decide) (fun c_12 => absurd c_12 (by decide)) (fun c_12 => ?_)
    refine lv_iconst (v := nI (0)) F.x F.b dX1_readLand_15 (by decide) ?_
    exact g_zret (u := (va_up S.1 15 (0), S.2)) F I (by first | exact bI_01 _ | exact Or.inl rfl | exact Or.inr rfl) (by exact Or.inr ⟨0, ⟨fun u hu => absurd hu (Nat.not_lt_zero _), fun z9 => hw9 ⟨z9.1, of_decide_eq_true z9.2.2⟩⟩, by omega, by unfold okLen; omega, rfl, hat0, (by exact ⟨rfl, rfl, rfl, rfl, rfl, rfl, rfl, rfl, rfl, rfl, rfl, rfl, rfl, rfl, rfl, rfl, rfl⟩)⟩) dX1_readLand_16 (by first | exact Nat.le_refl _ | decide) (by first | exact Nat.le_refl _ | decide)
