/-! THE REFERENCE, the wheel of a day, readings -/
set_option maxRecDepth 100000
theorem days_step {S : MS} {L : LD} {ms f day : Nat} {w : WH} (h : f ≤ day) (hT : mTb S (pRow L ms day (pRn L day (pDays L ms f w (day - f))) 6)) : mTb S (pDays L ms f w (day + 1 - f)) := by
  have e1 : day + 1 - f = (day - f) + 1 := by omega
  have e2 : f + (day - f) = day := by omega
  rw [e1, pDays, e2]; exact hT
theorem rn_no {S : MS} {L : LD} {d : Nat} {w : WH} (h : w.1 (pSp d 1 0) = 99 ∨ pGv L 1 d = false) (hT : mTb S w) : mTb S (pRn L d w) := by
  unfold pRn; rw [if_neg (by rcases h with h | h <;> simp [h])]; exact hT
theorem rn_yes {S : MS} {L : LD} {d : Nat} {w : WH} (h : w.1 (pSp d 1 0) ≠ 99) (h2 : pGv L 1 d = true) (hT : mTb S (pCm w.1 d 1 1 (w.1 (pSp d 1 0)), w.2)) : mTb S (pRn L d w) := by
  unfold pRn; rw [if_pos ⟨h, h2⟩]; exact hT
theorem st_no {S : MS} {L : LD} {f : Nat} (h : pGv L 0 f = false) (hT : mTb S (fun _ => 99, 99, 99)) : mTb S (pSt L f) := by
  unfold pSt; rw [if_neg (by simp [h])]; exact hT
theorem st_yes {S : MS} {L : LD} {f : Nat} (h : pGv L 0 f = true) (hT : mTb S (pCm (fun _ => 99) f 0 0 0, 99, 99)) : mTb S (pSt L f) := by
  unfold pSt; rw [if_pos h]; exact hT
def pBy (L : LD) (ms f x : Nat) : Bool := decide ((pWh L ms f).2.1 ≠ 99) && decide ((pWh L ms f).2.1 ≤ x)
/-- the readings hold of the first n -/
def pSo (L : LD) (ms : Nat) : Nat → Bool
  | 0 => true
  | n + 1 => pSo L ms n && decide ((pWh L ms (L 27 n)).2.1 = L 28 n)
theorem pSo_f {L : LD} {ms k : Nat} (h : (pWh L ms (L 27 k)).2.1 ≠ L 28 k) : ∀ n, k < n → pSo L ms n = false
  | 0, hk => absurd hk (Nat.not_lt_zero _)
  | n + 1, hk => by
    rw [pSo]
    rcases Nat.lt_or_ge k n with h1 | h1
    · rw [pSo_f h n h1]; rfl
    · have : k = n := by omega
      subst this; simp [h]
def ROk (L : LD) : Prop := L 26 0 ≤ 8 ∧ ∀ j, j < L 26 0 → L 27 j < 8 ∧ (L 28 j = 99 ∨ L 28 j < 8)
def mRd (S : MS) (L : LD) : Prop := S.1 26 = nI (L 26 0) ∧ ∀ j, j < L 26 0 → S.2 27 j = nI (L 27 j) ∧ S.2 28 j = eN (L 28 j)
theorem mRd_keep {S S' : MS} {L : LD} (h : mRd S L) (k : mKeep S S') : mRd S' L := by
  obtain ⟨b1, b2, b3, b4, b5, b6, b7, b8, b9, b10, b11, b12, b13, b14, b15, b16, b17⟩ := k
  unfold mRd
  rw [b5, b16, b17]
  exact h
theorem eN_inj {a b : Nat} (ha : a < 100) (hb : b < 100) : eN a = eN b ↔ a = b := by
  refine ⟨fun h => ?_, fun h => by rw [h]⟩
  rcases Nat.decEq a 99 with h1 | h1 <;> rcases Nat.decEq b 99 with h2 | h2
  · rw [eN_i h1, eN_i h2] at h; exact (nI_eq (by omega) (by omega)).mp h
  · rw [eN_i h1, h2] at h; exact absurd h (nI_n9 a (by omega))
  · rw [eN_i h2, h1] at h; exact absurd h.symm (nI_n9 b (by omega))
  · rw [h1, h2]

theorem hd_mt_makeWheel : yX1_makeWheel.cls = RX1 ∧ yX1_makeWheel.cls ≠ "java/lang/invoke/MethodHandle" ∧ yX1_makeWheel.cls ≠ "java/lang/invoke/VarHandle" ∧ (parseMethodDescriptor yX1_makeWheel.desc).map (fun d => d.parameters.length) = some 1 := by decide +kernel
set_option maxHeartbeats 4000000 in
theorem mt_makeWheel (l : Launch) (G : gG) (o : Nat) (q : Nat → Nat) (S : MS) (f : Nat) (L : LD) (ms : Nat) (hL : LOk L) (hS : mLd S L ms) (hms : ms < 100) (hf : f < 8) : gMv l yX1_makeWheel cX1_makeWheel 5 none ({ frames := 3, cells := 0, slots := 0, locals := 72 } : Room) G [.ref o, .int (nI (f))] (mW G o q S) (fun S' => mW G o q S') (fun S' => mKeep S S' ∧ mTb S' (pWh L ms f)) := by
  refine gMv_of (by decide) (Nat.le_of_ble_eq_true rfl) ?_
  intro p e s m below meth c ls A F I hl
  have hl : lv_has ls 5 [(0, .ref (o)), (1, .int (nI (f)))] := hl
  have hS0 := hS
  refine lv_iconst (v := nI (0)) F.x F.b dX1_makeWheel_0 (by decide) ?_
  refine lv_istore_n (lv' := [(2, .int (nI (0))), (0, .ref (o)), (1, .int (nI (f)))]) F.x F.b dX1_makeWheel_1 rfl hl (by decide) rfl (fun ls hl => ?_)
  refine W_ind 2 (fun _ => []) (fun n_J => n_J) (fun n_J H locs ls => ∃ (k : Nat) (S1 : MS), n_J = 48 - k ∧ (k ≤ 48) ∧ (mKeep S S1) ∧ (∀ i, i < k → S1.2 19 i = -9) ∧  Iw G A s (mW G o q S1) H locs ∧ lv_has ls 5 [(0, .ref (o)), (1, .int (nI (f))), (2, .int (nI (k)))]) ?_ _ ⟨0, S, rfl, by omega, by exact mKeep.rf, by exact fun i h => absurd h (Nat.not_lt_zero _), I, lv_sub hl [1, 2, 0] rfl⟩
  intro n2 H locs ls hJ ih2
  obtain ⟨k, S1, hn2, hk, hk1, ha, I, hl⟩ := hJ
  refine lv_iload_n F.x F.b dX1_makeWheel_2 rfl (lv_at hl 2 rfl) ?_
  refine lv_bipush (v := nI (48)) F.x F.b dX1_makeWheel_3 (by decide) ?_
  refine n_icmp_ge (tgt := 22) F (by omega) (by omega) dX1_makeWheel_5 (by decide) (fun c_5 => ?_) (fun c_5 => ?_)
  · have hk48 : k = 48 := by omega
    subst hk48
    refine lv_aload_n F.x F.b dX1_makeWheel_22 rfl (lv_at hl 0 rfl) ?_
    refine lv_bipush (v := (-9)) F.x F.b dX1_makeWheel_23 (by decide) ?_
    refine m_put F I 20 (by decide) q1175 dX1_makeWheel_25 (fun H locs (I : Iw G A s (mW G o q (va_up S1.1 20 ((-9)), S1.2)) H locs) => ?_)
    refine lv_aload_n F.x F.b dX1_makeWheel_28 rfl (lv_at hl 0 rfl) ?_
    refine lv_bipush (v := (-9)) F.x F.b dX1_makeWheel_29 (by decide) ?_
    refine m_put F I 21 (by decide) q1176 dX1_makeWheel_31 (fun H locs (I : Iw G A s (mW G o q (va_up (va_up S1.1 20 ((-9))) 21 ((-9)), S1.2)) H locs) => ?_)
    refine W_cut (α := Nat) (cells := 0) (slots := 0) 51 (fun _ => []) (fun _ H locs ls => ∃ (S2 : MS), (mKeep S S2) ∧ (mTb S2 (pSt L f)) ∧ Iw G A s (mW G o q S2) H locs ∧ lv_has ls 5 [(0, .ref (o)), (1, .int (nI (f)))]) (fun J51 => ?_) ?_
    · have hS := mLd_keep hS0 hk1
      refine lv_aload_n F.x F.b dX1_makeWheel_34 rfl (lv_at hl 0 rfl) ?_
      refine lv_iconst (v := nI (0)) F.x F.b dX1_makeWheel_35 (by decide) ?_
      refine lv_iload_n F.x F.b dX1_makeWheel_36 rfl (lv_at hl 1 rfl) ?_
      refine g_calli I (g_runV (n := 2) (ci := 0) (q0 := 0) (As := [.int (nI (0)), .int (nI (f))]) (rest := []) F I (mt_doesGiveA l G o q ((va_up (va_up S1.1 20 ((-9))) 21 ((-9)), S1.2)) (0) (f) L ms (by exact hL) (by exact hS) (by omega) (by omega) _) q1334 q1336 qs39 q56 q1337 hd_mt_doesGive ⟨Nat.le_of_ble_eq_true rfl, Nat.le_of_ble_eq_true rfl⟩ rfl rfl rfl rfl hl.1 rfl (lv_room (Nat.le_of_ble_eq_true rfl)) dX1_makeWheel_37 ⟨by first | exact Nat.le_refl _ | decide, by first | exact Nat.le_refl _ | decide⟩) (fun r u_ H locs hp I => ?_)
      obtain ⟨rfl, rfl⟩ := hp
      refine z_eq (tgt := 51) F dX1_makeWheel_40 (by decide) (fun c_40 => ?_) (fun c_40 => ?_)
      · exact J51 0 _ _ _ ⟨(va_up (va_up S1.1 20 ((-9))) 21 ((-9)), S1.2), by first | exact hk1.tr (mKeep.tr (by exact ⟨rfl, rfl, rfl, rfl, rfl, rfl, rfl, rfl, rfl, rfl, rfl, rfl, rfl, rfl, rfl, rfl, rfl⟩) hq48.1) | exact hk1.tr (by exact ⟨rfl, rfl, rfl, rfl, rfl, rfl, rfl, rfl, rfl, rfl, rfl, rfl, rfl, rfl, rfl, rfl, rfl⟩), by first | exact st_yes c_40 hq48.2 | exact st_no c_40 ⟨fun i hi => ha i hi, rfl, rfl⟩, I, lv_sub hl [0, 1] rfl⟩
      · refine lv_aload_n F.x F.b dX1_makeWheel_43 rfl (lv_at hl 0 rfl) ?_
        refine lv_iload_n F.x F.b dX1_makeWheel_44 rfl (lv_at hl 1 rfl) ?_
        refine lv_iconst (v := nI (0)) F.x F.b dX1_makeWheel_45 (by decide) ?_
        refine lv_iconst (v := nI (0)) F.x F.b dX1_makeWheel_46 (by decide) ?_
        refine lv_iconst (v := nI (0)) F.x F.b dX1_makeWheel_47 (by decide) ?_
        refine g_callv I (g_runV (n := 4) (ci := 0) (q0 := 0) (As := [.int (nI (f)), .int (nI (0)), .int (nI (0)), .int (nI (0))]) (rest := []) F I (mt_comes l G o q ((va_up (va_up S1.1 20 ((-9))) 21 ((-9)), S1.2)) (f) (0) (0) (0) (fun _ => 99, 99, 99) (by exact ⟨fun i hi => ha i hi, rfl, rfl⟩) (by exact fun _ _ _ _ _ _ => Or.inl rfl) (by omega) (by omega) (by omega) (by omega) _) q1338 q1340 qs40 q56 q1341 hd_mt_comes ⟨Nat.le_of_ble_eq_true rfl, Nat.le_of_ble_eq_true rfl⟩ rfl rfl rfl rfl hl.1 rfl (lv_room (Nat.le_of_ble_eq_true rfl)) dX1_makeWheel_48 ⟨by first | exact Nat.le_refl _ | decide, by first | exact Nat.le_refl _ | decide⟩) (fun Z48 H locs hp I => ?_)
        have hq48 := hp
        exact J51 0 _ _ _ ⟨Z48, by first | exact hk1.tr (mKeep.tr (by exact ⟨rfl, rfl, rfl, rfl, rfl, rfl, rfl, rfl, rfl, rfl, rfl, rfl, rfl, rfl, rfl, rfl, rfl⟩) hq48.1) | exact hk1.tr (by exact ⟨rfl, rfl, rfl, rfl, rfl, rfl, rfl, rfl, rfl, rfl, rfl, rfl, rfl, rfl, rfl, rfl, rfl⟩), by first | exact st_yes c_40 hq48.2 | exact st_no c_40 ⟨fun i hi => ha i hi, rfl, rfl⟩, I, lv_sub hl [0, 1] rfl⟩
    · intro _ H locs ls hJ
      obtain ⟨S2, hk2, hT2, I, hl⟩ := hJ
      refine lv_iload_n F.x F.b dX1_makeWheel_51 rfl (lv_at hl 1 rfl) ?_
      refine lv_istore_n (lv' := [(2, .int (nI (f))), (0, .ref (o)), (1, .int (nI (f)))]) F.x F.b dX1_makeWheel_52 rfl hl (by decide) rfl (fun ls hl => ?_)
      refine W_ind 53 (fun _ => []) (fun n_J => n_J) (fun n_J H locs ls => ∃ (day : Nat) (S3 : MS), n_J = 8 - day ∧ (f ≤ day) ∧ (day ≤ 8) ∧ (mKeep S S3) ∧ (mTb S3 (pDays L ms f (pSt L f) (day - f))) ∧  Iw G A s (mW G o q S3) H locs ∧ lv_has ls 5 [(0, .ref (o)), (1, .int (nI (f))), (2, .int (nI (day)))]) ?_ _ ⟨f, S2, rfl, by omega, by omega, by exact hk2, by rw [Nat.sub_self]; exact hT2, I, lv_sub hl [1, 2, 0] rfl⟩
      intro n53 H locs ls hJ ih53
      obtain ⟨day, S3, hn53, hd1, hd2, hk3, hT3, I, hl⟩ := hJ
      have hS := mLd_keep hS0 hk3
      have hw3 := wOk_days (ms := ms) (f := f) hL (wOk_st (L := L) (f := f)) (day - f) (by omega)
      refine lv_iload_n F.x F.b dX1_makeWheel_53 rfl (lv_at hl 2 rfl) ?_
      refine lv_bipush (v := nI (8)) F.x F.b dX1_makeWheel_54 (by decide) ?_
      refine n_icmp_ge (tgt := 129) F (by omega) (by omega) dX1_makeWheel_56 (by decide) (fun c_56 => ?_) (fun c_56 => ?_)
      · exact g_vret (u := S3) F I (by exact ⟨hk3, by rw [show day = 8 by omega] at hT3; exact hT3⟩) dX1_makeWheel_129 (by first | exact Nat.le_refl _ | decide) (by first | exact Nat.le_refl _ | decide)
      · have hb := hw3.1 day 1 0 (by omega) (by omega) (by omega)
        refine lv_aload_n F.x F.b dX1_makeWheel_59 rfl (lv_at hl 0 rfl) ?_
        refine m_geta F I 19 (by decide) q1174 dX1_makeWheel_60 ?_
        refine lv_iload_n F.x F.b dX1_makeWheel_63 rfl (lv_at hl 2 rfl) ?_
        refine lv_iconst (v := nI (1)) F.x F.b dX1_makeWheel_64 (by decide) ?_
        refine lv_iconst (v := nI (0)) F.x F.b dX1_makeWheel_65 (by decide) ?_
        refine g_calli I (g_runS (n := 3) (As := [.int (nI (day)), .int (nI (1)), .int (nI (0))]) (rest := [.ref (q 19)]) F I (mt_spot l G _ (day) (1) (0)   _) q1342 q1343 q56 q1344 hd_mt_spot.2 ⟨Nat.le_of_ble_eq_true rfl, Nat.le_of_ble_eq_true rfl⟩ rfl rfl hl.1 rfl (lv_room (Nat.le_of_ble_eq_true rfl)) dX1_makeWheel_66 ⟨by first | exact Nat.le_refl _ | decide, by first | exact Nat.le_refl _ | decide⟩) (fun r u_ H locs hp I => ?_)
        obtain rfl := hp
        refine m_ld (v := ((S3.2 19) ((3 * day + (1)) * 2 + (0)))) F I 19 (by decide) (show (3 * day + (1)) * 2 + (0) < 48 by omega) rfl dX1_makeWheel_69 ?_
        refine W.val (y := eN ((pDays L ms f (pSt L f) (day - f)).1 (pSp day 1 0))) (by exact hT3.1 _ (pSp_lt (by omega) (by omega) (by omega))) ?_
        refine lv_istore_n (lv' := [(3, .int (eN ((pDays L ms f (pSt L f) (day - f)).1 (pSp day 1 0)))), (0, .ref (o)), (1, .int (nI (f))), (2, .int (nI (day)))]) F.x F.b dX1_makeWheel_70 rfl hl (by decide) rfl (fun ls hl => ?_)
        refine W_cut (α := Nat) (cells := 0) (slots := 0) 94 (fun _ => []) (fun _ H locs ls => ∃ (S4 : MS), (mKeep S S4) ∧ (mTb S4 (pRn L day (pDays L ms f (pSt L f) (day - f)))) ∧ Iw G A s (mW G o q S4) H locs ∧ lv_has ls 5 [(0, .ref (o)), (1, .int (nI (f))), (2, .int (nI (day)))]) (fun J94 => ?_) ?_
        · refine lv_iload_n F.x F.b dX1_makeWheel_71 rfl (lv_at hl 0 rfl) ?_
          refine lv_bipush (v := (-9)) F.x F.b dX1_makeWheel_72 (by decide) ?_
          refine e9_eq (tgt := 94) F (by omega) dX1_makeWheel_74 (by decide) (fun c_74 => ?_) (fun c_74 => ?_)
          · exact J94 0 _ _ _ ⟨S3, by first | exact hk3.tr hq91.1 | exact hk3, by first | exact rn_yes c_74 c_83 hq91.2 | exact rn_no (Or.inl c_74) hT3 | exact rn_no (Or.inr c_83) hT3, I, lv_sub hl [1, 2, 3] rfl⟩
          · refine lv_aload_n F.x F.b dX1_makeWheel_77 rfl (lv_at hl 1 rfl) ?_
            refine lv_iconst (v := nI (1)) F.x F.b dX1_makeWheel_78 (by decide) ?_
            refine lv_iload_n F.x F.b dX1_makeWheel_79 rfl (lv_at hl 3 rfl) ?_
            refine g_calli I (g_runV (n := 2) (ci := 0) (q0 := 0) (As := [.int (nI (1)), .int (nI (day))]) (rest := []) F I (mt_doesGiveA l G o q (S3) (1) (day) L ms (by exact hL) (by exact hS) (by omega) (by omega) _) q1334 q1336 qs39 q56 q1337 hd_mt_doesGive ⟨Nat.le_of_ble_eq_true rfl, Nat.le_of_ble_eq_true rfl⟩ rfl rfl rfl rfl hl.1 rfl (lv_room (Nat.le_of_ble_eq_true rfl)) dX1_makeWheel_80 ⟨by first | exact Nat.le_refl _ | decide, by first | exact Nat.le_refl _ | decide⟩) (fun r u_ H locs hp I => ?_)
            obtain ⟨rfl, rfl⟩ := hp
            refine z_eq (tgt := 94) F dX1_makeWheel_83 (by decide) (fun c_83 => ?_) (fun c_83 => ?_)
            · exact J94 0 _ _ _ ⟨S3, by first | exact hk3.tr hq91.1 | exact hk3, by first | exact rn_yes c_74 c_83 hq91.2 | exact rn_no (Or.inl c_74) hT3 | exact rn_no (Or.inr c_83) hT3, I, lv_sub hl [1, 2, 3] rfl⟩
            · refine lv_aload_n F.x F.b dX1_makeWheel_86 rfl (lv_at hl 1 rfl) ?_
              refine lv_iload_n F.x F.b dX1_makeWheel_87 rfl (lv_at hl 3 rfl) ?_
              refine lv_iconst (v := nI (1)) F.x F.b dX1_makeWheel_88 (by decide) ?_
              refine lv_iconst (v := nI (1)) F.x F.b dX1_makeWheel_89 (by decide) ?_
              refine lv_iload_n F.x F.b dX1_makeWheel_90 rfl (lv_at hl 0 rfl) ?_
              refine W.val (y := nI ((pDays L ms f (pSt L f) (day - f)).1 (pSp day 1 0))) (by exact eN_i c_74) ?_
              refine g_callv I (g_runV (n := 4) (ci := 0) (q0 := 0) (As := [.int (nI (day)), .int (nI (1)), .int (nI (1)), .int (nI ((pDays L ms f (pSt L f) (day - f)).1 (pSp day 1 0)))]) (rest := []) F I (mt_comes l G o q (S3) (day) (1) (1) ((pDays L ms f (pSt L f) (day - f)).1 (pSp day 1 0)) (pDays L ms f (pSt L f) (day - f)) (by exact hT3) (by exact hw3.1) (by omega) (by omega) (by omega) (by omega) _) q1338 q1340 qs40 q56 q1341 hd_mt_comes ⟨Nat.le_of_ble_eq_true rfl, Nat.le_of_ble_eq_true rfl⟩ rfl rfl rfl rfl hl.1 rfl (lv_room (Nat.le_of_ble_eq_true rfl)) dX1_makeWheel_91 ⟨by first | exact Nat.le_refl _ | decide, by first | exact Nat.le_refl _ | decide⟩) (fun Z91 H locs hp I => ?_)
              have hq91 := hp
              exact J94 0 _ _ _ ⟨Z91, by first | exact hk3.tr hq91.1 | exact hk3, by first | exact rn_yes c_74 c_83 hq91.2 | exact rn_no (Or.inl c_74) hT3 | exact rn_no (Or.inr c_83) hT3, I, lv_sub hl [1, 2, 3] rfl⟩
        · intro _ H locs ls hJ
          obtain ⟨S4, hk4, hT4, I, hl⟩ := hJ
          refine lv_iconst (v := nI (0)) F.x F.b dX1_makeWheel_94 (by decide) ?_
          refine lv_istore (lv' := [(4, .int (nI (0))), (0, .ref (o)), (1, .int (nI (f))), (2, .int (nI (day)))]) F.x F.b dX1_makeWheel_95 hl (by decide) rfl (fun ls hl => ?_)
          refine W_ind 97 (fun _ => []) (fun n_J => n_J) (fun n_J H locs ls => ∃ (k : Nat) (S5 : MS), n_J = 6 - k ∧ (k ≤ 6) ∧ (mKeep S S5) ∧ (mTb S5 (pRow L ms day (pRn L day (pDays L ms f (pSt L f) (day - f))) k)) ∧  Iw G A s (mW G o q S5) H locs ∧ lv_has ls 5 [(0, .ref (o)), (1, .int (nI (f))), (2, .int (nI (day))), (4, .int (nI (k)))]) ?_ _ ⟨0, S4, rfl, by omega, by exact hk4, by exact hT4, I, lv_sub hl [1, 2, 3, 0] rfl⟩
          intro n97 H locs ls hJ ih97
          obtain ⟨k, S5, hn97, hk, hk5, hT5, I, hl⟩ := hJ
          have hS := mLd_keep hS0 hk5
          refine lv_iload F.x F.b dX1_makeWheel_97 (lv_at hl 3 rfl) ?_
          refine lv_bipush (v := nI (6)) F.x F.b dX1_makeWheel_99 (by decide) ?_
          refine n_icmp_ge (tgt := 123) F (by omega) (by omega) dX1_makeWheel_101 (by decide) (fun c_101 => ?_) (fun c_101 => ?_)
          · refine lv_iinc (v := nI ((day + 1))) (lv' := [(2, .int (nI ((day + 1)))), (0, .ref (o)), (1, .int (nI (f))), (4, .int (nI (k)))]) F.x F.b dX1_makeWheel_123 hl (k := 2) rfl (nI_1 (day)) (by decide) rfl (fun ls hl => ?_)
            refine lv_goto (tgt := 53) F.x F.b dX1_makeWheel_126 (by decide) ?_
            exact ih53 _ _ _ _ (by omega) ⟨day + 1, S5, rfl, by omega, by omega, by exact hk5, by exact days_step hd1 (by rw [show k = 6 by omega] at hT5; exact hT5), I, lv_sub hl [1, 2, 0] rfl⟩
          · refine lv_aload_n F.x F.b dX1_makeWheel_104 rfl (lv_at hl 0 rfl) ?_
            refine lv_iload_n F.x F.b dX1_makeWheel_105 rfl (lv_at hl 2 rfl) ?_
            refine lv_iload F.x F.b dX1_makeWheel_106 (lv_at hl 3 rfl) ?_
            refine lv_iconst (v := nI (2)) F.x F.b dX1_makeWheel_108 (by decide) ?_
            refine n_idiv F dX1_makeWheel_109 (by omega) (by omega) (by omega) ?_
            refine lv_iload F.x F.b dX1_makeWheel_110 (lv_at hl 3 rfl) ?_
            refine lv_iconst (v := nI (2)) F.x F.b dX1_makeWheel_112 (by decide) ?_
            refine n_irem F dX1_makeWheel_113 (by omega) (by omega) (by omega) ?_
            refine g_callv I (g_runV (n := 3) (ci := 0) (q0 := 0) (As := [.int (nI (day)), .int (nI ((k / 2))), .int (nI ((k % 2)))]) (rest := []) F I (mt_goOn l G o q (S5) (day) ((k / 2)) ((k % 2)) L ms (pRow L ms day (pRn L day (pDays L ms f (pSt L f) (day - f))) k) (by exact hL) (by exact hS) (by exact hms) (by exact hT5) (by exact wOk_row hL (wOk_rn hw3 (by omega)) (by omega) k (by omega)) (by omega) (by omega) (by omega) _) q1345 q1347 qs41 q56 q1348 hd_mt_goOn ⟨Nat.le_of_ble_eq_true rfl, Nat.le_of_ble_eq_true rfl⟩ rfl rfl rfl rfl hl.1 rfl (lv_room (Nat.le_of_ble_eq_true rfl)) dX1_makeWheel_114 ⟨by first | exact Nat.le_refl _ | decide, by first | exact Nat.le_refl _ | decide⟩) (fun Z114 H locs hp I => ?_)
            have hq114 := hp
            obtain ⟨hk6, hT6⟩ := hq114
            refine lv_iinc (v := nI ((k + 1))) (lv' := [(4, .int (nI ((k + 1)))), (0, .ref (o)), (1, .int (nI (f))), (2, .int (nI (day)))]) F.x F.b dX1_makeWheel_117 hl (k := 3) rfl (nI_1 (k)) (by decide) rfl (fun ls hl => ?_)
            refine lv_goto (tgt := 97) F.x F.b dX1_makeWheel_120 (by decide) ?_
            exact ih97 _ _ _ _ (by omega) ⟨k + 1, Z114, rfl, by omega, by exact hk5.tr hk6, by exact hT6, I, lv_sub hl [1, 2, 3, 0] rfl⟩
  · refine lv_aload_n F.x F.b dX1_makeWheel_8 rfl (lv_at hl 0 rfl) ?_
    refine m_geta F I 19 (by decide) q1174 dX1_makeWheel_9 ?_
    refine lv_iload_n F.x F.b dX1_makeWheel_12 rfl (lv_at hl 2 rfl) ?_
    refine lv_bipush (v := (-9)) F.x F.b dX1_makeWheel_13 (by decide) ?_
    refine m_st F I 19 (by decide) (show k < 48 by omega) dX1_makeWheel_15 (fun H locs (I : Iw G A s (mW G o q (S1.1, va_up S1.2 19 (upd (S1.2 19) (k) ((-9))))) H locs) => ?_)
    refine lv_iinc (v := nI ((k + 1))) (lv' := [(2, .int (nI ((k + 1)))), (0, .ref (o)), (1, .int (nI (f)))]) F.x F.b dX1_makeWheel_16 hl (k := 2) rfl (nI_1 (k)) (by decide) rfl (fun ls hl => ?_)
    refine lv_goto (tgt := 2) F.x F.b dX1_makeWheel_19 (by decide) ?_
    exact ih2 _ _ _ _ (by omega) ⟨k + 1, (S1.1, va_up S1.2 19 (upd (S1.2 19) (k) ((-9)))), rfl, by omega, by exact hk1.tr (by exact ⟨rfl, rfl, rfl, rfl, rfl, rfl, rfl, rfl, rfl, rfl, rfl, rfl, rfl, rfl, rfl, rfl, rfl⟩), by intro i h; show upd (S1.2 19) k (-9) i = -9; unfold upd; split <;> first | rfl | exact ha i (by omega), I, lv_sub hl [1, 2, 0] rfl⟩

theorem hd_mt_soonestOf : yX1_soonestOf.cls = RX1 ∧ yX1_soonestOf.cls ≠ "java/lang/invoke/MethodHandle" ∧ yX1_soonestOf.cls ≠ "java/lang/invoke/VarHandle" ∧ (parseMethodDescriptor yX1_soonestOf.desc).map (fun d => d.parameters.length) = some 1 := by decide +kernel
set_option maxHeartbeats 4000000 in
theorem mt_soonestOf (l : Launch) (G : gG) (o : Nat) (q : Nat → Nat) (S : MS) (f : Nat) (L : LD) (ms : Nat) (hL : LOk L) (hS : mLd S L ms) (hms : ms < 100) (hf : f < 8) : gMi l yX1_soonestOf cX1_soonestOf 2 (some .int) ({ frames := 4, cells := 0, slots := 0, locals := 96 } : Room) G [.ref o, .int (nI (f))] (mW G o q S) (fun S' => mW G o q S') (fun ρ S' => eN ((pWh L ms f).2.1) = ρ ∧ mKeep S S') := by
  refine gMi_of (by decide) (Nat.le_of_ble_eq_true rfl) ?_
  intro p e s m below meth c ls A F I hl
  have hl : lv_has ls 2 [(0, .ref (o)), (1, .int (nI (f)))] := hl
  refine lv_aload_n F.x F.b dX1_soonestOf_0 rfl (lv_at hl 0 rfl) ?_
  refine lv_iload_n F.x F.b dX1_soonestOf_1 rfl (lv_at hl 1 rfl) ?_
  refine g_callv I (g_runV (n := 1) (ci := 0) (q0 := 0) (As := [.int (nI (f))]) (rest := []) F I (mt_makeWheel l G o q (S) (f) L ms (by exact hL) (by exact hS) (by exact hms) (by omega) _) q1330 q1332 qs38 q56 q1333 hd_mt_makeWheel ⟨Nat.le_of_ble_eq_true rfl, Nat.le_of_ble_eq_true rfl⟩ rfl rfl rfl rfl hl.1 rfl (lv_room (Nat.le_of_ble_eq_true rfl)) dX1_soonestOf_2 ⟨by first | exact Nat.le_refl _ | decide, by first | exact Nat.le_refl _ | decide⟩) (fun Z2 H locs hp I => ?_)
  have hq2 := hp
  refine lv_aload_n F.x F.b dX1_soonestOf_5 rfl (lv_at hl 0 rfl) ?_
  refine m_get (v := (Z2.1 20)) F I 20 (by decide) rfl q1175 dX1_soonestOf_6 ?_
  exact g_iret (u := Z2) F I (by exact ⟨hq2.2.2.1.symm, hq2.1⟩) dX1_soonestOf_9 (by first | exact Nat.le_refl _ | decide) (by first | exact Nat.le_refl _ | decide)

theorem hd_mt_canBy : yX1_canBy.cls = RX1 ∧ yX1_canBy.cls ≠ "java/lang/invoke/MethodHandle" ∧ yX1_canBy.cls ≠ "java/lang/invoke/VarHandle" ∧ (parseMethodDescriptor yX1_canBy.desc).map (fun d => d.parameters.length) = some 2 := by decide +kernel
set_option maxHeartbeats 4000000 in
theorem mt_canBy (l : Launch) (G : gG) (o : Nat) (q : Nat → Nat) (S : MS) (f : Nat) (x : Nat) (L : LD) (ms : Nat) (hL : LOk L) (hS : mLd S L ms) (hms : ms < 100) (hf : f < 8) (hx : x < 8) : gMi l yX1_canBy cX1_canBy 4 (some .boolean) ({ frames := 5, cells := 0, slots := 0, locals := 117 } : Room) G [.ref o, .int (nI (f)), .int (nI (x))] (mW G o q S) (fun S' => mW G o q S') (fun ρ S' => bI (pBy L ms f x) = ρ ∧ mKeep S S') := by
  refine gMi_of (by decide) (Nat.le_of_ble_eq_true rfl) ?_
  intro p e s m below meth c ls A F I hl
  have hl : lv_has ls 4 [(0, .ref (o)), (1, .int (nI (f))), (2, .int (nI (x)))] := hl
  have hwo := (wOk_wh (ms := ms) hL hf).2.1
  refine lv_aload_n F.x F.b dX1_canBy_0 rfl (lv_at hl 0 rfl) ?_
  refine lv_iload_n F.x F.b dX1_canBy_1 rfl (lv_at hl 1 rfl) ?_
  refine g_calli I (g_runV (n := 1) (ci := 0) (q0 := 0) (As := [.int (nI (f))]) (rest := []) F I (mt_soonestOf l G o q (S) (f) L ms (by exact hL) (by exact hS) (by exact hms) (by omega) _) q1326 q1328 qs37 q56 q1329 hd_mt_soonestOf ⟨Nat.le_of_ble_eq_true rfl, Nat.le_of_ble_eq_true rfl⟩ rfl rfl rfl rfl hl.1 rfl (lv_room (Nat.le_of_ble_eq_true rfl)) dX1_canBy_2 ⟨by first | exact Nat.le_refl _ | decide, by first | exact Nat.le_refl _ | decide⟩) (fun r Z2 H locs hp I => ?_)
  obtain ⟨rfl, hq2⟩ := hp
  refine lv_istore_n (lv' := [(3, .int (eN ((pWh L ms f).2.1))), (0, .ref (o)), (1, .int (nI (f))), (2, .int (nI (x)))]) F.x F.b dX1_canBy_5 rfl hl (by decide) rfl (fun ls hl => ?_)
  refine lv_iload_n F.x F.b dX1_canBy_6 rfl (lv_at hl 0 rfl) ?_
  refine lv_bipush (v := (-9)) F.x F.b dX1_canBy_7 (by decide) ?_
  refine e9_eq (tgt := 21) F (by omega) dX1_canBy_9 (by decide) (fun c_9 => ?_) (fun c_9 => ?_)
  · refine lv_iconst (v := nI (0)) F.x F.b dX1_canBy_21 (by decide) ?_
    exact g_zret (u := Z2) F I (by first | exact bI_01 _ | exact Or.inl rfl | exact Or.inr rfl) (by exact ⟨by first | (simp [pBy, bI, nI_0, nI1, *]; done) | (simp [pBy, bI, nI_0, nI1, Nat.not_le.mpr c_14]; done), hq2⟩) dX1_canBy_22 (by first | exact Nat.le_refl _ | decide) (by first | exact Nat.le_refl _ | decide)
  · refine lv_iload_n F.x F.b dX1_canBy_12 rfl (lv_at hl 0 rfl) ?_
    refine W.val (y := nI ((pWh L ms f).2.1)) (by exact eN_i c_9) ?_
    refine lv_iload_n F.x F.b dX1_canBy_13 rfl (lv_at hl 3 rfl) ?_
    refine n_icmp_gt (tgt := 21) F (by omega) (by omega) dX1_canBy_14 (by decide) (fun c_14 => ?_) (fun c_14 => ?_)
    · refine lv_iconst (v := nI (0)) F.x F.b dX1_canBy_21 (by decide) ?_
      exact g_zret (u := Z2) F I (by first | exact bI_01 _ | exact Or.inl rfl | exact Or.inr rfl) (by exact ⟨by first | (simp [pBy, bI, nI_0, nI1, *]; done) | (simp [pBy, bI, nI_0, nI1, Nat.not_le.mpr c_14]; done), hq2⟩) dX1_canBy_22 (by first | exact Nat.le_refl _ | decide) (by first | exact Nat.le_refl _ | decide)
    · refine lv_iconst (v := nI (1)) F.x F.b dX1_canBy_17 (by decide) ?_
      refine lv_goto (tgt := 22) F.x F.b dX1_canBy_18 (by decide) ?_
      exact g_zret (u := Z2) F I (by first | exact bI_01 _ | exact Or.inl rfl | exact Or.inr rfl) (by exact ⟨by first | (simp [pBy, bI, nI_0, nI1, *]; done) | (simp [pBy, bI, nI_0, nI1, Nat.not_le.mpr c_14]; done), hq2⟩) dX1_canBy_22 (by first | exact Nat.le_refl _ | decide) (by first | exact Nat.le_refl _ | decide)

theorem hd_mt_areSo : yX1_areSo.cls = RX1 ∧ yX1_areSo.cls ≠ "java/lang/invoke/MethodHandle" ∧ yX1_areSo.cls ≠ "java/lang/invoke/VarHandle" ∧ (parseMethodDescriptor yX1_areSo.desc).map (fun d => d.parameters.length) = some 0 := by decide +kernel
set_option maxHeartbeats 4000000 in
theorem mt_areSo (l : Launch) (G : gG) (o : Nat) (q : Nat → Nat) (S : MS)  (L : LD) (ms : Nat) (hL : LOk L) (hS : mLd S L ms) (hms : ms < 100) (hR : ROk L) (hRd : mRd S L) : gMi l yX1_areSo cX1_areSo 2 (some .boolean) ({ frames := 5, cells := 0, slots := 0, locals := 117 } : Room) G [.ref o] (mW G o q S) (fun S' => mW G o q S') (fun ρ S' => bI (pSo L ms (L 26 0)) = ρ ∧ mKeep S S') := by
  refine gMi_of (by decide) (Nat.le_of_ble_eq_true rfl) ?_
  intro p e s m below meth c ls A F I hl
  have hl : lv_has ls 2 [(0, .ref (o))] := hl
  have hS0 := hS
  have hR8 := hR.1
  refine lv_iconst (v := nI (0)) F.x F.b dX1_areSo_0 (by decide) ?_
  refine lv_istore_n (lv' := [(1, .int (nI (0))), (0, .ref (o))]) F.x F.b dX1_areSo_1 rfl hl (by decide) rfl (fun ls hl => ?_)
  refine W_ind 2 (fun _ => []) (fun n_J => n_J) (fun n_J H locs ls => ∃ (k : Nat) (S1 : MS), n_J = L 26 0 - k ∧ (k ≤ L 26 0) ∧ (mKeep S S1) ∧ (pSo L ms k = true) ∧  Iw G A s (mW G o q S1) H locs ∧ lv_has ls 2 [(0, .ref (o)), (1, .int (nI (k)))]) ?_ _ ⟨0, S, rfl, by omega, by exact mKeep.rf, by rfl, I, lv_sub hl [1, 0] rfl⟩
  intro n2 H locs ls hJ ih2
  obtain ⟨k, S1, hn2, hk, hk1, hso, I, hl⟩ := hJ
  have hS := mLd_keep hS0 hk1
  have hRk := mRd_keep hRd hk1
  refine lv_iload_n F.x F.b dX1_areSo_2 rfl (lv_at hl 1 rfl) ?_
  refine lv_aload_n F.x F.b dX1_areSo_3 rfl (lv_at hl 0 rfl) ?_
  refine m_get (v := (S1.1 26)) F I 26 (by decide) rfl q1181 dX1_areSo_4 ?_
  refine W.val (y := nI (L 26 0)) (by exact hRk.1) ?_
  refine n_icmp_ge (tgt := 37) F (by omega) (by omega) dX1_areSo_7 (by decide) (fun c_7 => ?_) (fun c_7 => ?_)
  · refine lv_iconst (v := nI (1)) F.x F.b dX1_areSo_37 (by decide) ?_
    exact g_zret (u := S1) F I (by first | exact bI_01 _ | exact Or.inl rfl | exact Or.inr rfl) (by exact ⟨by rw [show L 26 0 = k by omega, hso]; rfl, hk1⟩) dX1_areSo_38 (by first | exact Nat.le_refl _ | decide) (by first | exact Nat.le_refl _ | decide)
  · have hr := hR.2 k (by omega)
    have hrd := hRk.2 k (by omega)
    have hwo := (wOk_wh (ms := ms) hL hr.1).2.1
    refine lv_aload_n F.x F.b dX1_areSo_10 rfl (lv_at hl 0 rfl) ?_
    refine lv_aload_n F.x F.b dX1_areSo_11 rfl (lv_at hl 0 rfl) ?_
    refine m_geta F I 27 (by decide) q1182 dX1_areSo_12 ?_
    refine lv_iload_n F.x F.b dX1_areSo_15 rfl (lv_at hl 1 rfl) ?_
    refine m_ld (v := ((S1.2 27) (k))) F I 27 (by decide) (show k < 8 by omega) rfl dX1_areSo_16 ?_
    refine W.val (y := nI (L 27 k)) (by exact hrd.1) ?_
    refine g_calli I (g_runV (n := 1) (ci := 0) (q0 := 0) (As := [.int (nI (L 27 k))]) (rest := []) F I (mt_soonestOf l G o q (S1) (L 27 k) L ms (by exact hL) (by exact hS) (by exact hms) (by omega) _) q1326 q1328 qs37 q56 q1329 hd_mt_soonestOf ⟨Nat.le_of_ble_eq_true rfl, Nat.le_of_ble_eq_true rfl⟩ rfl rfl rfl rfl hl.1 rfl (lv_room (Nat.le_of_ble_eq_true rfl)) dX1_areSo_17 ⟨by first | exact Nat.le_refl _ | decide, by first | exact Nat.le_refl _ | decide⟩) (fun r Z17 H locs hp I => ?_)
    obtain ⟨rfl, hq17⟩ := hp
    have hrd := (mRd_keep hRk hq17).2 k (by omega)
    refine lv_aload_n F.x F.b dX1_areSo_20 rfl (lv_at hl 0 rfl) ?_
    refine m_geta F I 28 (by decide) q1183 dX1_areSo_21 ?_
    refine lv_iload_n F.x F.b dX1_areSo_24 rfl (lv_at hl 1 rfl) ?_
    refine m_ld (v := ((Z17.2 28) (k))) F I 28 (by decide) (show k < 8 by omega) rfl dX1_areSo_25 ?_
    refine W.val (y := eN (L 28 k)) (by exact hrd.2) ?_
    refine lv_icmp_eq (x := (eN ((pWh L ms (L 27 k)).2.1))) (y := (eN (L 28 k))) (tgt := 31) F.x F.b dX1_areSo_26 (by decide) (fun c_26 => ?_) (fun c_26 => ?_)
    · refine lv_iinc (v := nI ((k + 1))) (lv' := [(1, .int (nI ((k + 1)))), (0, .ref (o))]) F.x F.b dX1_areSo_31 hl (k := 1) rfl (nI_1 (k)) (by decide) rfl (fun ls hl => ?_)
      refine lv_goto (tgt := 2) F.x F.b dX1_areSo_34 (by decide) ?_
      exact ih2 _ _ _ _ (by omega) ⟨k + 1, Z17, rfl, by omega, by exact hk1.tr hq17, by rw [pSo, hso]; simp; exact (eN_inj (by omega) (by omega)).mp c_26, I, lv_sub hl [1, 0] rfl⟩
    · refine lv_iconst (v := nI (0)) F.x F.b dX1_areSo_29 (by decide) ?_
      exact g_zret (u := Z17) F I (by first | exact bI_01 _ | exact Or.inl rfl | exact Or.inr rfl) (by exact ⟨by rw [pSo_f (fun z => c_26 (by rw [z])) _ (show k < L 26 0 by omega)]; rfl, hk1.tr hq17⟩) dX1_areSo_30 (by first | exact Nat.le_refl _ | decide) (by first | exact Nat.le_refl _ | decide)
