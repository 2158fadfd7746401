/-! PLAIN LAW, 7, and the reference: a land out of signs -/
set_option maxRecDepth 100000
/-- whether the sign at place t of a text is right, if those ahead of it are -/
def chk (f : Nat → Int32) (t : Nat) : Bool := if t = 0 then decide (f 0 = 118) else if t ≤ 8 then mWi (f t) 48 57
  else if t ≤ 20 then (if (t - 9) % 4 = 0 then decide (f t = 59) else if (t - 9) % 4 = 1 then mWi (f t) 48 50 else if (t - 9) % 4 = 2 then mWi (f t) 48 (if f (t - 1) = 50 then 53 else 57) else mWi (f t) 48 (if f (t - 2) = 50 ∧ f (t - 1) = 53 then 53 else 57))
  else (if (t - 21) % 6 = 0 then decide (f t = 44) else if (t - 21) % 6 = 1 then (decide (f t = 112) || decide (f t = 115) || decide (f t = 116)) else if (t - 21) % 6 = 2 then mWi (f t) 48 50 else if (t - 21) % 6 = 3 then (mWi (f t) 48 50 && !decide (f t = f (t - 1))) else if (t - 21) % 6 = 4 then mWi (f t) 49 51 else mWi (f t) 48 57)
def stp (f : Nat → Int32) (n t : Nat) : Prop := t < n ∧ t < 57 ∧ chk f t = true
/-- t is the first place that isn't right -/
def isEnd (f : Nat → Int32) (n t : Nat) : Prop := (∀ u, u < t → stp f n u) ∧ ¬ stp f n t
def okLen (n : Nat) : Prop := 27 ≤ n ∧ n ≤ 57 ∧ (n - 21) % 6 = 0
theorem isEnd.uniq {f : Nat → Int32} {n t u : Nat} (h : isEnd f n t) (k : isEnd f n u) : t = u := by
  rcases Nat.lt_trichotomy t u with a | a | a
  · exact absurd (k.1 t a) h.2
  · exact a
  · exact absurd (h.1 u a) k.2
def dv (f : Nat → Int32) (t : Nat) : Nat := (f t).toNatClampNeg - 48
theorem dv_y {f : Nat → Int32} {t y : Nat} (h : f t = nI (48 + y)) (hy : y ≤ 9) : dv f t = y := by unfold dv; rw [h, nI_clamp (by omega)]; omega
def sv (f : Nat → Int32) (v : Nat) : Nat := 100 * dv f (10 + 4 * v) + 10 * dv f (11 + 4 * v) + dv f (12 + 4 * v)
def fT (S : MS) (b : Nat) : Nat → Int32 := fun u => S.2 4 (b + u)
def kdv (f : Nat → Int32) (t : Nat) : Nat := if f t = 112 then 0 else if f t = 115 then 1 else 2
theorem chk_0 (f : Nat → Int32) : chk f 0 = decide (f 0 = 118) := rfl
theorem chk_d (f : Nat → Int32) {d : Nat} (h : d < 8) : chk f (1 + d) = mWi (f (1 + d)) 48 57 := by unfold chk; rw [if_neg (by omega), if_pos (by omega)]
theorem chk_v0 (f : Nat → Int32) {v : Nat} (h : v < 3) : chk f (9 + 4 * v) = decide (f (9 + 4 * v) = 59) := by unfold chk; rw [if_neg (by omega), if_neg (by omega), if_pos (by omega), if_pos (by omega)]
theorem chk_v1 (f : Nat → Int32) {v : Nat} (h : v < 3) : chk f (10 + 4 * v) = mWi (f (10 + 4 * v)) 48 50 := by unfold chk; rw [if_neg (by omega), if_neg (by omega), if_pos (by omega), if_neg (by omega), if_pos (by omega)]
theorem chk_v2 (f : Nat → Int32) {v : Nat} (h : v < 3) : chk f (11 + 4 * v) = mWi (f (11 + 4 * v)) 48 (if f (10 + 4 * v) = 50 then 53 else 57) := by unfold chk; rw [if_neg (by omega), if_neg (by omega), if_pos (by omega), if_neg (by omega), if_neg (by omega), if_pos (by omega), show 11 + 4 * v - 1 = 10 + 4 * v by omega]
theorem chk_v3 (f : Nat → Int32) {v : Nat} (h : v < 3) : chk f (12 + 4 * v) = mWi (f (12 + 4 * v)) 48 (if f (10 + 4 * v) = 50 ∧ f (11 + 4 * v) = 53 then 53 else 57) := by unfold chk; rw [if_neg (by omega), if_neg (by omega), if_pos (by omega), if_neg (by omega), if_neg (by omega), if_neg (by omega), show 12 + 4 * v - 1 = 11 + 4 * v by omega, show 12 + 4 * v - 2 = 10 + 4 * v by omega]
theorem chk_p0 (f : Nat → Int32) (p : Nat) : chk f (21 + 6 * p) = decide (f (21 + 6 * p) = 44) := by unfold chk; rw [if_neg (by omega), if_neg (by omega), if_neg (by omega), if_pos (by omega)]
theorem chk_p1 (f : Nat → Int32) (p : Nat) : chk f (22 + 6 * p) = (decide (f (22 + 6 * p) = 112) || decide (f (22 + 6 * p) = 115) || decide (f (22 + 6 * p) = 116)) := by unfold chk; rw [if_neg (by omega), if_neg (by omega), if_neg (by omega), if_neg (by omega), if_pos (by omega)]
theorem chk_p2 (f : Nat → Int32) (p : Nat) : chk f (23 + 6 * p) = mWi (f (23 + 6 * p)) 48 50 := by unfold chk; rw [if_neg (by omega), if_neg (by omega), if_neg (by omega), if_neg (by omega), if_neg (by omega), if_pos (by omega)]
theorem chk_p3 (f : Nat → Int32) (p : Nat) : chk f (24 + 6 * p) = (mWi (f (24 + 6 * p)) 48 50 && !decide (f (24 + 6 * p) = f (23 + 6 * p))) := by unfold chk; rw [if_neg (by omega), if_neg (by omega), if_neg (by omega), if_neg (by omega), if_neg (by omega), if_neg (by omega), if_pos (by omega), show 24 + 6 * p - 1 = 23 + 6 * p by omega]
theorem chk_p4 (f : Nat → Int32) (p : Nat) : chk f (25 + 6 * p) = mWi (f (25 + 6 * p)) 49 51 := by unfold chk; rw [if_neg (by omega), if_neg (by omega), if_neg (by omega), if_neg (by omega), if_neg (by omega), if_neg (by omega), if_neg (by omega), if_pos (by omega)]
theorem chk_p5 (f : Nat → Int32) (p : Nat) : chk f (26 + 6 * p) = mWi (f (26 + 6 * p)) 48 57 := by unfold chk; rw [if_neg (by omega), if_neg (by omega), if_neg (by omega), if_neg (by omega), if_neg (by omega), if_neg (by omega), if_neg (by omega), if_neg (by omega)]
theorem wi_48 {x : Int32} {lo hi : Nat} (hl : lo ≤ 9) (hh : hi ≤ 9) (h : mWi x (nI (48 + lo)) (nI (48 + hi)) = true) : ∃ y, lo ≤ y ∧ y ≤ hi ∧ x = nI (48 + y) := by
  unfold mWi at h
  rw [Bool.and_eq_true, Bool.not_eq_true', Bool.not_eq_true', decide_eq_false_iff_not, decide_eq_false_iff_not] at h
  have h0 : ¬ x < 0 := fun z => h.1 (Int32.lt_of_lt_of_le z (nI_pos' (by omega)))
  obtain ⟨j, hj, rfl⟩ := nI_of h0
  have a := mt (nI_ltI (a := j) (b := 48 + lo) hj (by omega)).mpr h.1
  have b := mt (nI_ltI (a := 48 + hi) (b := j) (by omega) hj).mpr h.2
  exact ⟨j - 48, by omega, by omega, by rw [show 48 + (j - 48) = j by omega]⟩
/-- but for the place of reading, S' is as S -/
def mKr (S S' : MS) : Prop := mKeep S S' ∧ S'.1 15 = S.1 15 ∧ S'.2 16 = S.2 16 ∧ S'.2 17 = S.2 17 ∧ S'.2 18 = S.2 18
theorem mKr.rf {S : MS} : mKr S S := ⟨mKeep.rf, rfl, rfl, rfl, rfl⟩
theorem mKr.tr {S S1 S2 : MS} (h : mKr S S1) (k : mKr S1 S2) : mKr S S2 := ⟨h.1.tr k.1, k.2.1.trans h.2.1, k.2.2.1.trans h.2.2.1, k.2.2.2.1.trans h.2.2.2.1, k.2.2.2.2.trans h.2.2.2.2⟩
theorem mKr.at {S S1 : MS} (h : mKr S S1) (z : Int32) : mKr S (va_up S1.1 14 z, S1.2) := ⟨h.1.tr (by exact ⟨rfl, rfl, rfl, rfl, rfl, rfl, rfl, rfl, rfl, rfl, rfl, rfl, rfl, rfl, rfl, rfl, rfl⟩), h.2.1, h.2.2.1, h.2.2.2.1, h.2.2.2.2⟩

theorem hd_mt_digit : yX1_digit.cls = RX1 ∧ yX1_digit.cls ≠ "java/lang/invoke/MethodHandle" ∧ yX1_digit.cls ≠ "java/lang/invoke/VarHandle" ∧ (parseMethodDescriptor yX1_digit.desc).map (fun d => d.parameters.length) = some 3 := by decide +kernel
set_option maxHeartbeats 4000000 in
theorem mt_digit (l : Launch) (G : gG) (o : Nat) (q : Nat → Nat) (S : MS) (en : Nat) (lo : Nat) (hi : Nat) (b t n : Nat) (hen : en = b + n) (hbn : b + n ≤ 240) (ha : S.1 14 = nI (b + t)) (ht : t ≤ 60) (hlo : lo ≤ 9) (hhi : hi ≤ 9) : gMi l yX1_digit cX1_digit 4 (some .int) ({ frames := 1, cells := 0, slots := 0, locals := 22 } : Room) G [.ref o, .int (nI (en)), .int (nI (lo)), .int (nI (hi))] (mW G o q S) (fun S' => mW G o q S') (fun ρ S' => (∃ y, lo ≤ y ∧ y ≤ hi ∧ t < n ∧ mWi (S.2 4 (b + t)) (nI (48 + lo)) (nI (48 + hi)) = true ∧ S.2 4 (b + t) = nI (48 + y) ∧ nI y = ρ ∧ (va_up S.1 14 (nI (b + (t + 1))), S.2) = S') ∨ (¬ (t < n ∧ mWi (S.2 4 (b + t)) (nI (48 + lo)) (nI (48 + hi)) = true) ∧ -9 = ρ ∧ S = S')) := by
  refine gMi_of (by decide) (Nat.le_of_ble_eq_true rfl) ?_
  intro p e s m below meth c ls A F I hl
  have hl : lv_has ls 4 [(0, .ref (o)), (1, .int (nI (en))), (2, .int (nI (lo))), (3, .int (nI (hi)))] := hl
  refine lv_aload_n F.x F.b dX1_digit_0 rfl (lv_at hl 0 rfl) ?_
  refine m_get (v := (S.1 14)) F I 14 (by decide) rfl q1169 dX1_digit_1 ?_
  refine W.val (y := nI (b + t)) (by exact ha) ?_
  refine lv_iload_n F.x F.b dX1_digit_4 rfl (lv_at hl 1 rfl) ?_
  refine n_icmp_ge (tgt := 31) F (by omega) (by omega) dX1_digit_5 (by decide) (fun c_5 => ?_) (fun c_5 => ?_)
  · refine lv_bipush (v := (-9)) F.x F.b dX1_digit_31 (by decide) ?_
    exact g_iret (u := S) F I (by exact Or.inr ⟨fun z9 => by omega, rfl, rfl⟩) dX1_digit_33 (by first | exact Nat.le_refl _ | decide) (by first | exact Nat.le_refl _ | decide)
  · refine lv_aload_n F.x F.b dX1_digit_8 rfl (lv_at hl 0 rfl) ?_
    refine m_geta F I 4 (by decide) q1159 dX1_digit_9 ?_
    refine lv_aload_n F.x F.b dX1_digit_12 rfl (lv_at hl 0 rfl) ?_
    refine m_get (v := (S.1 14)) F I 14 (by decide) rfl q1169 dX1_digit_13 ?_
    refine W.val (y := nI (b + t)) (by exact ha) ?_
    refine m_ld (v := ((S.2 4) (b + t))) F I 4 (by decide) (show b + t < 240 by omega) rfl dX1_digit_16 ?_
    refine lv_bipush (v := nI (48)) F.x F.b dX1_digit_17 (by decide) ?_
    refine lv_iload_n F.x F.b dX1_digit_19 rfl (lv_at hl 2 rfl) ?_
    refine n_iadd F dX1_digit_20 ?_
    refine lv_bipush (v := nI (48)) F.x F.b dX1_digit_21 (by decide) ?_
    refine lv_iload_n F.x F.b dX1_digit_23 rfl (lv_at hl 3 rfl) ?_
    refine n_iadd F dX1_digit_24 ?_
    refine g_calli I (g_runS (n := 3) (As := [.int (((S.2 4) (b + t))), .int (nI ((48 + lo))), .int (nI ((48 + hi)))]) (rest := []) F I (mt_within l G _ (((S.2 4) (b + t))) ((nI ((48 + lo)))) ((nI ((48 + hi))))   _) q1250 q1251 q56 q1252 hd_mt_within.2 ⟨Nat.le_of_ble_eq_true rfl, Nat.le_of_ble_eq_true rfl⟩ rfl rfl hl.1 rfl (lv_room (Nat.le_of_ble_eq_true rfl)) dX1_digit_25 ⟨by first | exact Nat.le_refl _ | decide, by first | exact Nat.le_refl _ | decide⟩) (fun r u_ H locs hp I => ?_)
    obtain rfl := hp
    refine z_ne (tgt := 34) F dX1_digit_28 (by decide) (fun c_28 => ?_) (fun c_28 => ?_)
    · obtain ⟨y, hy1, hy2, hy3⟩ := wi_48 hlo hhi c_28
      refine lv_aload_n F.x F.b dX1_digit_34 rfl (lv_at hl 0 rfl) ?_
      refine lv_dup F.x F.b dX1_digit_35 rfl ?_
      refine m_get (v := (S.1 14)) F I 14 (by decide) rfl q1169 dX1_digit_36 ?_
      refine W.val (y := nI (b + t)) (by exact ha) ?_
      refine lv_iconst (v := nI (1)) F.x F.b dX1_digit_39 (by decide) ?_
      refine n_iadd F dX1_digit_40 ?_
      refine W.val (y := nI ((b + (t + 1)))) (by rfl) ?_
      refine m_put F I 14 (by decide) q1169 dX1_digit_41 (fun H locs (I : Iw G A s (mW G o q (va_up S.1 14 ((nI ((b + (t + 1))))), S.2)) H locs) => ?_)
      refine lv_aload_n F.x F.b dX1_digit_44 rfl (lv_at hl 0 rfl) ?_
      refine m_geta F I 4 (by decide) q1159 dX1_digit_45 ?_
      refine lv_aload_n F.x F.b dX1_digit_48 rfl (lv_at hl 0 rfl) ?_
      refine m_get (v := (nI ((b + (t + 1))))) F I 14 (by decide) rfl q1169 dX1_digit_49 ?_
      refine W.val (y := nI ((b + (t + 1)))) (by rfl) ?_
      refine lv_iconst (v := nI (1)) F.x F.b dX1_digit_52 (by decide) ?_
      refine lv_isub (x := (nI ((b + (t + 1))))) (y := 1) F.x F.b dX1_digit_53 ?_
      refine W.val (y := nI (b + t)) (by exact nI_pred (b + t)) ?_
      refine m_ld (v := ((S.2 4) (b + t))) F I 4 (by decide) (show b + t < 240 by omega) rfl dX1_digit_54 ?_
      refine lv_bipush (v := nI (48)) F.x F.b dX1_digit_55 (by decide) ?_
      refine lv_isub (x := ((S.2 4) (b + t))) (y := 48) F.x F.b dX1_digit_57 ?_
      refine W.val (y := nI (y)) (by rw [hy3, show (48 : Int32) = nI 48 from rfl, pk_sub (by omega), show 48 + y - 48 = y by omega]) ?_
      exact g_iret (u := (va_up S.1 14 ((nI ((b + (t + 1))))), S.2)) F I (by exact Or.inl ⟨y, hy1, hy2, by omega, c_28, hy3, rfl, rfl⟩) dX1_digit_58 (by first | exact Nat.le_refl _ | decide) (by first | exact Nat.le_refl _ | decide)
    · refine lv_bipush (v := (-9)) F.x F.b dX1_digit_31 (by decide) ?_
      exact g_iret (u := S) F I (by exact Or.inr ⟨fun z9 => by rw [c_28] at z9; exact absurd z9.2 (by decide), rfl, rfl⟩) dX1_digit_33 (by first | exact Nat.le_refl _ | decide) (by first | exact Nat.le_refl _ | decide)

theorem hd_mt_isSign : yX1_isSign.cls = RX1 ∧ yX1_isSign.cls ≠ "java/lang/invoke/MethodHandle" ∧ yX1_isSign.cls ≠ "java/lang/invoke/VarHandle" ∧ (parseMethodDescriptor yX1_isSign.desc).map (fun d => d.parameters.length) = some 2 := by decide +kernel
set_option maxHeartbeats 4000000 in
theorem mt_isSign (l : Launch) (G : gG) (o : Nat) (q : Nat → Nat) (S : MS) (en : Nat) (cd : Nat) (b t n : Nat) (hen : en = b + n) (hbn : b + n ≤ 240) (ha : S.1 14 = nI (b + t)) (ht : t ≤ 60) : gMi l yX1_isSign cX1_isSign 3 (some .boolean) ({ frames := 0, cells := 0, slots := 0, locals := 0 } : Room) G [.ref o, .int (nI (en)), .int (nI (cd))] (mW G o q S) (fun S' => mW G o q S') (fun ρ S' => (t < n ∧ S.2 4 (b + t) = nI cd ∧ bI true = ρ ∧ (va_up S.1 14 (nI (b + (t + 1))), S.2) = S') ∨ (¬ (t < n ∧ S.2 4 (b + t) = nI cd) ∧ bI false = ρ ∧ S = S')) := by
  refine gMi_of (by decide) (Nat.le_of_ble_eq_true rfl) ?_
  intro p e s m below meth c ls A F I hl
  have hl : lv_has ls 3 [(0, .ref (o)), (1, .int (nI (en))), (2, .int (nI (cd)))] := hl
  refine lv_aload_n F.x F.b dX1_isSign_0 rfl (lv_at hl 0 rfl) ?_
  refine m_get (v := (S.1 14)) F I 14 (by decide) rfl q1169 dX1_isSign_1 ?_
  refine W.val (y := nI (b + t)) (by exact ha) ?_
  refine lv_iload_n F.x F.b dX1_isSign_4 rfl (lv_at hl 1 rfl) ?_
  refine n_icmp_ge (tgt := 21) F (by omega) (by omega) dX1_isSign_5 (by decide) (fun c_5 => ?_) (fun c_5 => ?_)
  · refine lv_iconst (v := nI (0)) F.x F.b dX1_isSign_21 (by decide) ?_
    exact g_zret (u := S) F I (by first | exact bI_01 _ | exact Or.inl rfl | exact Or.inr rfl) (by exact Or.inr ⟨fun z9 => by omega, rfl, rfl⟩) dX1_isSign_22 (by first | exact Nat.le_refl _ | decide) (by first | exact Nat.le_refl _ | decide)
  · refine lv_aload_n F.x F.b dX1_isSign_8 rfl (lv_at hl 0 rfl) ?_
    refine m_geta F I 4 (by decide) q1159 dX1_isSign_9 ?_
    refine lv_aload_n F.x F.b dX1_isSign_12 rfl (lv_at hl 0 rfl) ?_
    refine m_get (v := (S.1 14)) F I 14 (by decide) rfl q1169 dX1_isSign_13 ?_
    refine W.val (y := nI (b + t)) (by exact ha) ?_
    refine m_ld (v := ((S.2 4) (b + t))) F I 4 (by decide) (show b + t < 240 by omega) rfl dX1_isSign_16 ?_
    refine lv_iload_n F.x F.b dX1_isSign_17 rfl (lv_at hl 2 rfl) ?_
    refine lv_icmp_eq (x := ((S.2 4) (b + t))) (y := (nI (cd))) (tgt := 23) F.x F.b dX1_isSign_18 (by decide) (fun c_18 => ?_) (fun c_18 => ?_)
    · refine lv_aload_n F.x F.b dX1_isSign_23 rfl (lv_at hl 0 rfl) ?_
      refine lv_dup F.x F.b dX1_isSign_24 rfl ?_
      refine m_get (v := (S.1 14)) F I 14 (by decide) rfl q1169 dX1_isSign_25 ?_
      refine W.val (y := nI (b + t)) (by exact ha) ?_
      refine lv_iconst (v := nI (1)) F.x F.b dX1_isSign_28 (by decide) ?_
      refine n_iadd F dX1_isSign_29 ?_
      refine W.val (y := nI ((b + (t + 1)))) (by rfl) ?_
      refine m_put F I 14 (by decide) q1169 dX1_isSign_30 (fun H locs (I : Iw G A s (mW G o q (va_up S.1 14 ((nI ((b + (t + 1))))), S.2)) H locs) => ?_)
      refine lv_iconst (v := nI (1)) F.x F.b dX1_isSign_33 (by decide) ?_
      exact g_zret (u := (va_up S.1 14 ((nI ((b + (t + 1))))), S.2)) F I (by first | exact bI_01 _ | exact Or.inl rfl | exact Or.inr rfl) (by exact Or.inl ⟨by omega, c_18, rfl, rfl⟩) dX1_isSign_34 (by first | exact Nat.le_refl _ | decide) (by first | exact Nat.le_refl _ | decide)
    · refine lv_iconst (v := nI (0)) F.x F.b dX1_isSign_21 (by decide) ?_
      exact g_zret (u := S) F I (by first | exact bI_01 _ | exact Or.inl rfl | exact Or.inr rfl) (by exact Or.inr ⟨fun z9 => by exact c_18 z9.2, rfl, rfl⟩) dX1_isSign_22 (by first | exact Nat.le_refl _ | decide) (by first | exact Nat.le_refl _ | decide)

theorem v2_t {f : Nat → Int32} {v y : Nat} (hv : v < 3) (h : f (10 + 4 * v) = nI (48 + y)) (e : y = 2) : chk f (11 + 4 * v) = mWi (f (11 + 4 * v)) 48 53 := by rw [chk_v2 f hv, if_pos (by rw [h, e]; rfl)]
theorem v2_n {f : Nat → Int32} {v y : Nat} (hv : v < 3) (h : f (10 + 4 * v) = nI (48 + y)) (hy : y ≤ 9) (e : y ≠ 2) : chk f (11 + 4 * v) = mWi (f (11 + 4 * v)) 48 57 := by rw [chk_v2 f hv, if_neg (fun z => e (by have := (nI_eq (a := 48 + y) (b := 50) (by omega) (by omega)).mp (h.symm.trans z); omega))]
theorem v3_t {f : Nat → Int32} {v y z : Nat} (hv : v < 3) (h : f (10 + 4 * v) = nI (48 + y)) (h2 : f (11 + 4 * v) = nI (48 + z)) (e : y = 2) (e2 : z = 5) : chk f (12 + 4 * v) = mWi (f (12 + 4 * v)) 48 53 := by rw [chk_v3 f hv, if_pos ⟨by rw [h, e]; rfl, by rw [h2, e2]; rfl⟩]
theorem v3_n {f : Nat → Int32} {v y z : Nat} (hv : v < 3) (h : f (10 + 4 * v) = nI (48 + y)) (h2 : f (11 + 4 * v) = nI (48 + z)) (hy : y ≤ 9) (hz : z ≤ 9) (e : ¬ (y = 2 ∧ z = 5)) : chk f (12 + 4 * v) = mWi (f (12 + 4 * v)) 48 57 := by
  rw [chk_v3 f hv, if_neg (fun q => e ⟨?_, ?_⟩)]
  · have := (nI_eq (a := 48 + y) (b := 50) (by omega) (by omega)).mp (h.symm.trans q.1); omega
  · have := (nI_eq (a := 48 + z) (b := 53) (by omega) (by omega)).mp (h2.symm.trans q.2); omega
theorem hd_mt_readSet : yX1_readSet.cls = RX1 ∧ yX1_readSet.cls ≠ "java/lang/invoke/MethodHandle" ∧ yX1_readSet.cls ≠ "java/lang/invoke/VarHandle" ∧ (parseMethodDescriptor yX1_readSet.desc).map (fun d => d.parameters.length) = some 1 := by decide +kernel
set_option maxHeartbeats 4000000 in
theorem mt_readSet (l : Launch) (G : gG) (o : Nat) (q : Nat → Nat) (S : MS) (en : Nat) (b v n : Nat) (hen : en = b + n) (hbn : b + n ≤ 240) (hat : S.1 14 = nI (b + (10 + 4 * v))) (hv : v < 3) : gMi l yX1_readSet cX1_readSet 5 (some .int) ({ frames := 2, cells := 0, slots := 0, locals := 45 } : Room) G [.ref o, .int (nI (en))] (mW G o q S) (fun S' => mW G o q S') (fun ρ S' => (∃ y, y ≤ 255 ∧ stp (fT S b) n (10 + 4 * v) ∧ stp (fT S b) n (11 + 4 * v) ∧ stp (fT S b) n (12 + 4 * v) ∧ sv (fT S b) v = y ∧ nI y = ρ ∧ S'.1 14 = nI (b + (13 + 4 * v)) ∧ mKr S S') ∨ (∃ u, u < 3 ∧ (∀ x, (10 + 4 * v) ≤ x → x < (10 + 4 * v) + u → stp (fT S b) n x) ∧ ¬ stp (fT S b) n ((10 + 4 * v) + u) ∧ -9 = ρ ∧ S'.1 14 = nI (b + ((10 + 4 * v) + u)) ∧ mKr S S')) := by
  refine gMi_of (by decide) (Nat.le_of_ble_eq_true rfl) ?_
  intro p e s m below meth c ls A F I hl
  have hl : lv_has ls 5 [(0, .ref (o)), (1, .int (nI (en)))] := hl
  refine lv_aload_n F.x F.b dX1_readSet_0 rfl (lv_at hl 0 rfl) ?_
  refine lv_iload_n F.x F.b dX1_readSet_1 rfl (lv_at hl 1 rfl) ?_
  refine lv_iconst (v := nI (0)) F.x F.b dX1_readSet_2 (by decide) ?_
  refine lv_iconst (v := nI (2)) F.x F.b dX1_readSet_3 (by decide) ?_
  refine g_calli I (g_runV (n := 3) (ci := 0) (q0 := 0) (As := [.int (nI (en)), .int (nI (0)), .int (nI (2))]) (rest := []) F I (mt_digit l G o q (S) (en) (0) (2) b (10 + 4 * v) n (by omega) (by omega) (by first | exact hat | exact congrArg nI (by omega)) (by omega) (by omega) (by omega) _) q1272 q1274 qs30 q56 q1275 hd_mt_digit ⟨Nat.le_of_ble_eq_true rfl, Nat.le_of_ble_eq_true rfl⟩ rfl rfl rfl rfl hl.1 rfl (lv_room (Nat.le_of_ble_eq_true rfl)) dX1_readSet_4 ⟨by first | exact Nat.le_refl _ | decide, by first | exact Nat.le_refl _ | decide⟩) (fun r Z4 H locs hp I => ?_)
  rcases hp with ⟨y4, hl4, hh4, hn4, hw4, he4, rfl, rfl⟩ | ⟨hw4, rfl, rfl⟩
  · skip
    refine lv_istore_n (lv' := [(2, .int (nI (y4))), (0, .ref (o)), (1, .int (nI (en)))]) F.x F.b dX1_readSet_7 rfl hl (by decide) rfl (fun ls hl => ?_)
    refine lv_iload_n F.x F.b dX1_readSet_8 rfl (lv_at hl 0 rfl) ?_
    refine lv_bipush (v := (-9)) F.x F.b dX1_readSet_9 (by decide) ?_
    refine lv_icmp_ne (x := (nI (y4))) (y := (-9)) (tgt := 17) F.x F.b dX1_readSet_11 (by decide) (fun c_11 => ?_) (fun c_11 => absurd c_11 (by exact nI_n9 _ (by omega)))
    have st0 : stp (fT S b) n (10 + 4 * v) := ⟨hn4, by omega, by rw [chk_v1 _ hv]; exact hw4⟩
    refine lv_aload_n F.x F.b dX1_readSet_17 rfl (lv_at hl 1 rfl) ?_
    refine lv_iload_n F.x F.b dX1_readSet_18 rfl (lv_at hl 2 rfl) ?_
    refine lv_iconst (v := nI (0)) F.x F.b dX1_readSet_19 (by decide) ?_
    refine lv_iload_n F.x F.b dX1_readSet_20 rfl (lv_at hl 0 rfl) ?_
    refine lv_iconst (v := nI (2)) F.x F.b dX1_readSet_21 (by decide) ?_
    refine n_icmp_ne (tgt := 29) F (by omega) (by omega) dX1_readSet_22 (by decide) (fun c_22 => ?_) (fun c_22 => ?_)
    · refine lv_bipush (v := nI (9)) F.x F.b dX1_readSet_29 (by decide) ?_
      refine g_calli I (g_runV (n := 3) (ci := 0) (q0 := 0) (As := [.int (nI (en)), .int (nI (0)), .int (nI (9))]) (rest := []) F I (mt_digit l G o q ((va_up S.1 14 (nI (b + ((10 + 4 * v) + 1))), S.2)) (en) (0) (9) b (11 + 4 * v) n (by omega) (by omega) (by first | exact hat | exact congrArg nI (by omega)) (by omega) (by omega) (by omega) _) q1272 q1274 qs30 q56 q1275 hd_mt_digit ⟨Nat.le_of_ble_eq_true rfl, Nat.le_of_ble_eq_true rfl⟩ rfl rfl rfl rfl hl.1 rfl (lv_room (Nat.le_of_ble_eq_true rfl)) dX1_readSet_31 ⟨by first | exact Nat.le_refl _ | decide, by first | exact Nat.le_refl _ | decide⟩) (fun r Z31 H locs hp I => ?_)
      rcases hp with ⟨y31, hl31, hh31, hn31, hw31, he31, rfl, rfl⟩ | ⟨hw31, rfl, rfl⟩
      · skip
        have ck1 : chk (fT S b) (11 + 4 * v) = mWi (S.2 4 (b + (11 + 4 * v))) (nI (48 + 0)) (nI (48 + 9)) := by first | exact v2_t (f := fT S b) hv he4 c_22 | exact v2_n (f := fT S b) hv he4 (by omega) c_22
        refine lv_istore_n (lv' := [(3, .int (nI (y31))), (2, .int (nI (y4))), (0, .ref (o)), (1, .int (nI (en)))]) F.x F.b dX1_readSet_34 rfl hl (by decide) rfl (fun ls hl => ?_)
        refine lv_iload_n F.x F.b dX1_readSet_35 rfl (lv_at hl 0 rfl) ?_
        refine lv_bipush (v := (-9)) F.x F.b dX1_readSet_36 (by decide) ?_
        refine lv_icmp_ne (x := (nI (y31))) (y := (-9)) (tgt := 44) F.x F.b dX1_readSet_38 (by decide) (fun c_38 => ?_) (fun c_38 => absurd c_38 (by exact nI_n9 _ (by omega)))
        have st1 : stp (fT S b) n (11 + 4 * v) := ⟨hn31, by omega, ck1.trans hw31⟩
        refine lv_aload_n F.x F.b dX1_readSet_44 rfl (lv_at hl 2 rfl) ?_
        refine lv_iload_n F.x F.b dX1_readSet_45 rfl (lv_at hl 3 rfl) ?_
        refine lv_iconst (v := nI (0)) F.x F.b dX1_readSet_46 (by decide) ?_
        refine lv_iload_n F.x F.b dX1_readSet_47 rfl (lv_at hl 1 rfl) ?_
        refine lv_iconst (v := nI (2)) F.x F.b dX1_readSet_48 (by decide) ?_
        refine n_icmp_ne (tgt := 61) F (by omega) (by omega) dX1_readSet_49 (by decide) (fun c_49 => ?_) (fun c_49 => ?_)
        · refine lv_bipush (v := nI (9)) F.x F.b dX1_readSet_61 (by decide) ?_
          refine g_calli I (g_runV (n := 3) (ci := 0) (q0 := 0) (As := [.int (nI (en)), .int (nI (0)), .int (nI (9))]) (rest := []) F I (mt_digit l G o q ((va_up (va_up S.1 14 (nI (b + ((10 + 4 * v) + 1)))) 14 (nI (b + ((11 + 4 * v) + 1))), S.2)) (en) (0) (9) b (12 + 4 * v) n (by omega) (by omega) (by first | exact hat | exact congrArg nI (by omega)) (by omega) (by omega) (by omega) _) q1272 q1274 qs30 q56 q1275 hd_mt_digit ⟨Nat.le_of_ble_eq_true rfl, Nat.le_of_ble_eq_true rfl⟩ rfl rfl rfl rfl hl.1 rfl (lv_room (Nat.le_of_ble_eq_true rfl)) dX1_readSet_63 ⟨by first | exact Nat.le_refl _ | decide, by first | exact Nat.le_refl _ | decide⟩) (fun r Z63 H locs hp I => ?_)
          rcases hp with ⟨y63, hl63, hh63, hn63, hw63, he63, rfl, rfl⟩ | ⟨hw63, rfl, rfl⟩
          · skip
            have ck2 : chk (fT S b) (12 + 4 * v) = mWi (S.2 4 (b + (12 + 4 * v))) (nI (48 + 0)) (nI (48 + 9)) := by first | exact v3_t (f := fT S b) hv he4 he31 c_49 c_54 | exact v3_n (f := fT S b) hv he4 he31 (by omega) (by omega) (by omega)
            refine lv_istore (lv' := [(4, .int (nI (y63))), (3, .int (nI (y31))), (2, .int (nI (y4))), (0, .ref (o)), (1, .int (nI (en)))]) F.x F.b dX1_readSet_66 hl (by decide) rfl (fun ls hl => ?_)
            refine lv_iload F.x F.b dX1_readSet_68 (lv_at hl 0 rfl) ?_
            refine lv_bipush (v := (-9)) F.x F.b dX1_readSet_70 (by decide) ?_
            refine lv_icmp_ne (x := (nI (y63))) (y := (-9)) (tgt := 80) F.x F.b dX1_readSet_72 (by decide) (fun c_72 => ?_) (fun c_72 => absurd c_72 (by exact nI_n9 _ (by omega)))
            refine lv_bipush (v := nI (100)) F.x F.b dX1_readSet_80 (by decide) ?_
            refine lv_iload_n F.x F.b dX1_readSet_82 rfl (lv_at hl 2 rfl) ?_
            refine n_imul F dX1_readSet_83 ?_
            refine lv_bipush (v := nI (10)) F.x F.b dX1_readSet_84 (by decide) ?_
            refine lv_iload_n F.x F.b dX1_readSet_86 rfl (lv_at hl 1 rfl) ?_
            refine n_imul F dX1_readSet_87 ?_
            refine n_iadd F dX1_readSet_88 ?_
            refine lv_iload F.x F.b dX1_readSet_89 (lv_at hl 0 rfl) ?_
            refine n_iadd F dX1_readSet_91 ?_
            exact g_iret (u := (va_up (va_up (va_up S.1 14 (nI (b + ((10 + 4 * v) + 1)))) 14 (nI (b + ((11 + 4 * v) + 1)))) 14 (nI (b + ((12 + 4 * v) + 1))), S.2)) F I (by exact Or.inl ⟨100 * y4 + 10 * y31 + y63, by omega, st0, st1, ⟨hn63, by omega, ck2.trans hw63⟩, by rw [sv, dv_y (f := fT S b) he4 (by omega), dv_y (f := fT S b) he31 (by omega), dv_y (f := fT S b) he63 (by omega)], rfl, congrArg nI (by omega), mKr.rf.at _⟩) dX1_readSet_92 (by first | exact Nat.le_refl _ | decide) (by first | exact Nat.le_refl _ | decide)
          · skip
            have ck2 : chk (fT S b) (12 + 4 * v) = mWi (S.2 4 (b + (12 + 4 * v))) (nI (48 + 0)) (nI (48 + 9)) := by first | exact v3_t (f := fT S b) hv he4 he31 c_49 c_54 | exact v3_n (f := fT S b) hv he4 he31 (by omega) (by omega) (by omega)
            refine lv_istore (lv' := [(4, .int ((-9))), (3, .int (nI (y31))), (2, .int (nI (y4))), (0, .ref (o)), (1, .int (nI (en)))]) F.x F.b dX1_readSet_66 hl (by decide) rfl (fun ls hl => ?_)
            refine lv_iload F.x F.b dX1_readSet_68 (lv_at hl 0 rfl) ?_
            refine lv_bipush (v := (-9)) F.x F.b dX1_readSet_70 (by decide) ?_
            refine lv_icmp_ne (x := (-9)) (y := (-9)) (tgt := 80) F.x F.b dX1_readSet_72 (by decide) (fun c_72 => absurd c_72 (by exact fun z9 => z9 rfl)) (fun c_72 => ?_)
            refine lv_bipush (v := (-9)) F.x F.b dX1_readSet_75 (by decide) ?_
            refine lv_goto (tgt := 92) F.x F.b dX1_readSet_77 (by decide) ?_
            exact g_iret (u := (va_up (va_up S.1 14 (nI (b + ((10 + 4 * v) + 1)))) 14 (nI (b + ((11 + 4 * v) + 1))), S.2)) F I (by exact Or.inr ⟨2, by omega, fun x h1 h2 => by rcases (show x = 10 + 4 * v ∨ x = 11 + 4 * v by omega) with rfl | rfl <;> assumption, fun z9 => hw63 ⟨by have := z9.1; omega, by have h9 := z9.2.2; rw [show 10 + 4 * v + 2 = 12 + 4 * v by omega] at h9; exact ck2 ▸ h9⟩, rfl, congrArg nI (by omega), mKr.rf.at _⟩) dX1_readSet_92 (by first | exact Nat.le_refl _ | decide) (by first | exact Nat.le_refl _ | decide)
        · refine lv_iload_n F.x F.b dX1_readSet_52 rfl (lv_at hl 0 rfl) ?_
          refine lv_iconst (v := nI (5)) F.x F.b dX1_readSet_53 (by decide) ?_
          refine n_icmp_ne (tgt := 61) F (by omega) (by omega) dX1_readSet_54 (by decide) (fun c_54 => ?_) (fun c_54 => ?_)
          · refine lv_bipush (v := nI (9)) F.x F.b dX1_readSet_61 (by decide) ?_
            refine g_calli I (g_runV (n := 3) (ci := 0) (q0 := 0) (As := [.int (nI (en)), .int (nI (0)), .int (nI (9))]) (rest := []) F I (mt_digit l G o q ((va_up (va_up S.1 14 (nI (b + ((10 + 4 * v) + 1)))) 14 (nI (b + ((11 + 4 * v) + 1))), S.2)) (en) (0) (9) b (12 + 4 * v) n (by omega) (by omega) (by first | exact hat | exact congrArg nI (by omega)) (by omega) (by omega) (by omega) _) q1272 q1274 qs30 q56 q1275 hd_mt_digit ⟨Nat.le_of_ble_eq_true rfl, Nat.le_of_ble_eq_true rfl⟩ rfl rfl rfl rfl hl.1 rfl (lv_room (Nat.le_of_ble_eq_true rfl)) dX1_readSet_63 ⟨by first | exact Nat.le_refl _ | decide, by first | exact Nat.le_refl _ | decide⟩) (fun r Z63 H locs hp I => ?_)
            rcases hp with ⟨y63, hl63, hh63, hn63, hw63, he63, rfl, rfl⟩ | ⟨hw63, rfl, rfl⟩
            · skip
              have ck2 : chk (fT S b) (12 + 4 * v) = mWi (S.2 4 (b + (12 + 4 * v))) (nI (48 + 0)) (nI (48 + 9)) := by first | exact v3_t (f := fT S b) hv he4 he31 c_49 c_54 | exact v3_n (f := fT S b) hv he4 he31 (by omega) (by omega) (by omega)
              refine lv_istore (lv' := [(4, .int (nI (y63))), (3, .int (nI (y31))), (2, .int (nI (y4))), (0, .ref (o)), (1, .int (nI (en)))]) F.x F.b dX1_readSet_66 hl (by decide) rfl (fun ls hl => ?_)
              refine lv_iload F.x F.b dX1_readSet_68 (lv_at hl 0 rfl) ?_
              refine lv_bipush (v := (-9)) F.x F.b dX1_readSet_70 (by decide) ?_
              refine lv_icmp_ne (x := (nI (y63))) (y := (-9)) (tgt := 80) F.x F.b dX1_readSet_72 (by decide) (fun c_72 => ?_) (fun c_72 => absurd c_72 (by exact nI_n9 _ (by omega)))
              refine lv_bipush (v := nI (100)) F.x F.b dX1_readSet_80 (by decide) ?_
              refine lv_iload_n F.x F.b dX1_readSet_82 rfl (lv_at hl 2 rfl) ?_
              refine n_imul F dX1_readSet_83 ?_
              refine lv_bipush (v := nI (10)) F.x F.b dX1_readSet_84 (by decide) ?_
              refine lv_iload_n F.x F.b dX1_readSet_86 rfl (lv_at hl 1 rfl) ?_
              refine n_imul F dX1_readSet_87 ?_
              refine n_iadd F dX1_readSet_88 ?_
              refine lv_iload F.x F.b dX1_readSet_89 (lv_at hl 0 rfl) ?_
              refine n_iadd F dX1_readSet_91 ?_
              exact g_iret (u := (va_up (va_up (va_up S.1 14 (nI (b + ((10 + 4 * v) + 1)))) 14 (nI (b + ((11 + 4 * v) + 1)))) 14 (nI (b + ((12 + 4 * v) + 1))), S.2)) F I (by exact Or.inl ⟨100 * y4 + 10 * y31 + y63, by omega, st0, st1, ⟨hn63, by omega, ck2.trans hw63⟩, by rw [sv, dv_y (f := fT S b) he4 (by omega), dv_y (f := fT S b) he31 (by omega), dv_y (f := fT S b) he63 (by omega)], rfl, congrArg nI (by omega), mKr.rf.at _⟩) dX1_readSet_92 (by first | exact Nat.le_refl _ | decide) (by first | exact Nat.le_refl _ | decide)
            · skip
              have ck2 : chk (fT S b) (12 + 4 * v) = mWi (S.2 4 (b + (12 + 4 * v))) (nI (48 + 0)) (nI (48 + 9)) := by first | exact v3_t (f := fT S b) hv he4 he31 c_49 c_54 | exact v3_n (f := fT S b) hv he4 he31 (by omega) (by omega) (by omega)
              refine lv_istore (lv' := [(4, .int ((-9))), (3, .int (nI (y31))), (2, .int (nI (y4))), (0, .ref (o)), (1, .int (nI (en)))]) F.x F.b dX1_readSet_66 hl (by decide) rfl (fun ls hl => ?_)
              refine lv_iload F.x F.b dX1_readSet_68 (lv_at hl 0 rfl) ?_
              refine lv_bipush (v := (-9)) F.x F.b dX1_readSet_70 (by decide) ?_
              refine lv_icmp_ne (x := (-9)) (y := (-9)) (tgt := 80) F.x F.b dX1_readSet_72 (by decide) (fun c_72 => absurd c_72 (by exact fun z9 => z9 rfl)) (fun c_72 => ?_)
              refine lv_bipush (v := (-9)) F.x F.b dX1_readSet_75 (by decide) ?_
              refine lv_goto (tgt := 92) F.x F.b dX1_readSet_77 (by decide) ?_
              exact g_iret (u := (va_up (va_up S.1 14 (nI (b + ((10 + 4 * v) + 1)))) 14 (nI (b + ((11 + 4 * v) + 1))), S.2)) F I (by exact Or.inr ⟨2, by omega, fun x h1 h2 => by rcases (show x = 10 + 4 * v ∨ x = 11 + 4 * v by omega) with rfl | rfl <;> assumption, fun z9 => hw63 ⟨by have := z9.1; omega, by have h9 := z9.2.2; rw [show 10 + 4 * v + 2 = 12 + 4 * v by omega] at h9; exact ck2 ▸ h9⟩, rfl, congrArg nI (by omega), mKr.rf.at _⟩) dX1_readSet_92 (by first | exact Nat.le_refl _ | decide) (by first | exact Nat.le_refl _ | decide)
          · refine lv_iconst (v := nI (5)) F.x F.b dX1_readSet_57 (by decide) ?_
            refine lv_goto (tgt := 63) F.x F.b dX1_readSet_58 (by decide) ?_
            refine g_calli I (g_runV (n := 3) (ci := 0) (q0 := 0) (As := [.int (nI (en)), .int (nI (0)), .int (nI (5))]) (rest := []) F I (mt_digit l G o q ((va_up (va_up S.1 14 (nI (b + ((10 + 4 * v) + 1)))) 14 (nI (b + ((11 + 4 * v) + 1))), S.2)) (en) (0) (5) b (12 + 4 * v) n (by omega) (by omega) (by first | exact hat | exact congrArg nI (by omega)) (by omega) (by omega) (by omega) _) q1272 q1274 qs30 q56 q1275 hd_mt_digit ⟨Nat.le_of_ble_eq_true rfl, Nat.le_of_ble_eq_true rfl⟩ rfl rfl rfl rfl hl.1 rfl (lv_room (Nat.le_of_ble_eq_true rfl)) dX1_readSet_63 ⟨by first | exact Nat.le_refl _ | decide, by first | exact Nat.le_refl _ | decide⟩) (fun r Z63 H locs hp I => ?_)
            rcases hp with ⟨y63, hl63, hh63, hn63, hw63, he63, rfl, rfl⟩ | ⟨hw63, rfl, rfl⟩
            · skip
              have ck2 : chk (fT S b) (12 + 4 * v) = mWi (S.2 4 (b + (12 + 4 * v))) (nI (48 + 0)) (nI (48 + 5)) := by first | exact v3_t (f := fT S b) hv he4 he31 c_49 c_54 | exact v3_n (f := fT S b) hv he4 he31 (by omega) (by omega) (by omega)
              refine lv_istore (lv' := [(4, .int (nI (y63))), (3, .int (nI (y31))), (2, .int (nI (y4))), (0, .ref (o)), (1, .int (nI (en)))]) F.x F.b dX1_readSet_66 hl (by decide) rfl (fun ls hl => ?_)
              refine lv_iload F.x F.b dX1_readSet_68 (lv_at hl 0 rfl) ?_
              refine lv_bipush (v := (-9)) F.x F.b dX1_readSet_70 (by decide) ?_
              refine lv_icmp_ne (x := (nI (y63))) (y := (-9)) (tgt := 80) F.x F.b dX1_readSet_72 (by decide) (fun c_72 => ?_) (fun c_72 => absurd c_72 (by exact nI_n9 _ (by omega)))
              refine lv_bipush (v := nI (100)) F.x F.b dX1_readSet_80 (by decide) ?_
              refine lv_iload_n F.x F.b dX1_readSet_82 rfl (lv_at hl 2 rfl) ?_
              refine n_imul F dX1_readSet_83 ?_
              refine lv_bipush (v := nI (10)) F.x F.b dX1_readSet_84 (by decide) ?_
              refine lv_iload_n F.x F.b dX1_readSet_86 rfl (lv_at hl 1 rfl) ?_
              refine n_imul F dX1_readSet_87 ?_
              refine n_iadd F dX1_readSet_88 ?_
              refine lv_iload F.x F.b dX1_readSet_89 (lv_at hl 0 rfl) ?_
              refine n_iadd F dX1_readSet_91 ?_
              exact g_iret (u := (va_up (va_up (va_up S.1 14 (nI (b + ((10 + 4 * v) + 1)))) 14 (nI (b + ((11 + 4 * v) + 1)))) 14 (nI (b + ((12 + 4 * v) + 1))), S.2)) F I (by exact Or.inl ⟨100 * y4 + 10 * y31 + y63, by omega, st0, st1, ⟨hn63, by omega, ck2.trans hw63⟩, by rw [sv, dv_y (f := fT S b) he4 (by omega), dv_y (f := fT S b) he31 (by omega), dv_y (f := fT S b) he63 (by omega)], rfl, congrArg nI (by omega), mKr.rf.at _⟩) dX1_readSet_92 (by first | exact Nat.le_refl _ | decide) (by first | exact Nat.le_refl _ | decide)
            · skip
              have ck2 : chk (fT S b) (12 + 4 * v) = mWi (S.2 4 (b + (12 + 4 * v))) (nI (48 + 0)) (nI (48 + 5)) := by first | exact v3_t (f := fT S b) hv he4 he31 c_49 c_54 | exact v3_n (f := fT S b) hv he4 he31 (by omega) (by omega) (by omega)
              refine lv_istore (lv' := [(4, .int ((-9))), (3, .int (nI (y31))), (2, .int (nI (y4))), (0, .ref (o)), (1, .int (nI (en)))]) F.x F.b dX1_readSet_66 hl (by decide) rfl (fun ls hl => ?_)
              refine lv_iload F.x F.b dX1_readSet_68 (lv_at hl 0 rfl) ?_
              refine lv_bipush (v := (-9)) F.x F.b dX1_readSet_70 (by decide) ?_
              refine lv_icmp_ne (x := (-9)) (y := (-9)) (tgt := 80) F.x F.b dX1_readSet_72 (by decide) (fun c_72 => absurd c_72 (by exact fun z9 => z9 rfl)) (fun c_72 => ?_)
              refine lv_bipush (v := (-9)) F.x F.b dX1_readSet_75 (by decide) ?_
              refine lv_goto (tgt := 92) F.x F.b dX1_readSet_77 (by decide) ?_
              exact g_iret (u := (va_up (va_up S.1 14 (nI (b + ((10 + 4 * v) + 1)))) 14 (nI (b + ((11 + 4 * v) + 1))), S.2)) F I (by exact Or.inr ⟨2, by omega, fun x h1 h2 => by rcases (show x = 10 + 4 * v ∨ x = 11 + 4 * v by omega) with rfl | rfl <;> assumption, fun z9 => hw63 ⟨by have := z9.1; omega, by have h9 := z9.2.2; rw [show 10 + 4 * v + 2 = 12 + 4 * v by omega] at h9; exact ck2 ▸ h9⟩, rfl, congrArg nI (by omega), mKr.rf.at _⟩) dX1_readSet_92 (by first | exact Nat.le_refl _ | decide) (by first | exact Nat.le_refl _ | decide)
      · skip
        have ck1 : chk (fT S b) (11 + 4 * v) = mWi (S.2 4 (b + (11 + 4 * v))) (nI (48 + 0)) (nI (48 + 9)) := by first | exact v2_t (f := fT S b) hv he4 c_22 | exact v2_n (f := fT S b) hv he4 (by omega) c_22
        refine lv_istore_n (lv' := [(3, .int ((-9))), (2, .int (nI (y4))), (0, .ref (o)), (1, .int (nI (en)))]) F.x F.b dX1_readSet_34 rfl hl (by decide) rfl (fun ls hl => ?_)
        refine lv_iload_n F.x F.b dX1_readSet_35 rfl (lv_at hl 0 rfl) ?_
        refine lv_bipush (v := (-9)) F.x F.b dX1_readSet_36 (by decide) ?_
        refine lv_icmp_ne (x := (-9)) (y := (-9)) (tgt := 44) F.x F.b dX1_readSet_38 (by decide) (fun c_38 => absurd c_38 (by exact fun z9 => z9 rfl)) (fun c_38 => ?_)
        refine lv_bipush (v := (-9)) F.x F.b dX1_readSet_41 (by decide) ?_
        exact g_iret (u := (va_up S.1 14 (nI (b + ((10 + 4 * v) + 1))), S.2)) F I (by exact Or.inr ⟨1, by omega, fun x h1 h2 => by rw [show x = 10 + 4 * v by omega]; exact st0, fun z9 => hw31 ⟨by have := z9.1; omega, by have h9 := z9.2.2; rw [show 10 + 4 * v + 1 = 11 + 4 * v by omega] at h9; exact ck1 ▸ h9⟩, rfl, congrArg nI (by omega), mKr.rf.at _⟩) dX1_readSet_43 (by first | exact Nat.le_refl _ | decide) (by first | exact Nat.le_refl _ | decide)
    · refine lv_iconst (v := nI (5)) F.x F.b dX1_readSet_25 (by decide) ?_
      refine lv_goto (tgt := 31) F.x F.b dX1_readSet_26 (by decide) ?_
      refine g_calli I (g_runV (n := 3) (ci := 0) (q0 := 0) (As := [.int (nI (en)), .int (nI (0)), .int (nI (5))]) (rest := []) F I (mt_digit l G o q ((va_up S.1 14 (nI (b + ((10 + 4 * v) + 1))), S.2)) (en) (0) (5) b (11 + 4 * v) n (by omega) (by omega) (by first | exact hat | exact congrArg nI (by omega)) (by omega) (by omega) (by omega) _) q1272 q1274 qs30 q56 q1275 hd_mt_digit ⟨Nat.le_of_ble_eq_true rfl, Nat.le_of_ble_eq_true rfl⟩ rfl rfl rfl rfl hl.1 rfl (lv_room (Nat.le_of_ble_eq_true rfl)) dX1_readSet_31 ⟨by first | exact Nat.le_refl _ | decide, by first | exact Nat.le_refl _ | decide⟩) (fun r Z31 H locs hp I => ?_)
      rcases hp with ⟨y31, hl31, hh31, hn31, hw31, he31, rfl, rfl⟩ | ⟨hw31, rfl, rfl⟩
      · skip
        have ck1 : chk (fT S b) (11 + 4 * v) = mWi (S.2 4 (b + (11 + 4 * v))) (nI (48 + 0)) (nI (48 + 5)) := by first | exact v2_t (f := fT S b) hv he4 c_22 | exact v2_n (f := fT S b) hv he4 (by omega) c_22
        refine lv_istore_n (lv' := [(3, .int (nI (y31))), (2, .int (nI (y4))), (0, .ref (o)), (1, .int (nI (en)))]) F.x F.b dX1_readSet_34 rfl hl (by decide) rfl (fun ls hl => ?_)
        refine lv_iload_n F.x F.b dX1_readSet_35 rfl (lv_at hl 0 rfl) ?_
        refine lv_bipush (v := (-9)) F.x F.b dX1_readSet_36 (by decide) ?_
        refine lv_icmp_ne (x := (nI (y31))) (y := (-9)) (tgt := 44) F.x F.b dX1_readSet_38 (by decide) (fun c_38 => ?_) (fun c_38 => absurd c_38 (by exact nI_n9 _ (by omega)))
        have st1 : stp (fT S b) n (11 + 4 * v) := ⟨hn31, by omega, ck1.trans hw31⟩
        refine lv_aload_n F.x F.b dX1_readSet_44 rfl (lv_at hl 2 rfl) ?_
        refine lv_iload_n F.x F.b dX1_readSet_45 rfl (lv_at hl 3 rfl) ?_
        refine lv_iconst (v := nI (0)) F.x F.b dX1_readSet_46 (by decide) ?_
        refine lv_iload_n F.x F.b dX1_readSet_47 rfl (lv_at hl 1 rfl) ?_
        refine lv_iconst (v := nI (2)) F.x F.b dX1_readSet_48 (by decide) ?_
        refine n_icmp_ne (tgt := 61) F (by omega) (by omega) dX1_readSet_49 (by decide) (fun c_49 => ?_) (fun c_49 => ?_)
        · refine lv_bipush (v := nI (9)) F.x F.b dX1_readSet_61 (by decide) ?_
          refine g_calli I (g_runV (n := 3) (ci := 0) (q0 := 0) (As := [.int (nI (en)), .int (nI (0)), .int (nI (9))]) (rest := []) F I (mt_digit l G o q ((va_up (va_up S.1 14 (nI (b + ((10 + 4 * v) + 1)))) 14 (nI (b + ((11 + 4 * v) + 1))), S.2)) (en) (0) (9) b (12 + 4 * v) n (by omega) (by omega) (by first | exact hat | exact congrArg nI (by omega)) (by omega) (by omega) (by omega) _) q1272 q1274 qs30 q56 q1275 hd_mt_digit ⟨Nat.le_of_ble_eq_true rfl, Nat.le_of_ble_eq_true rfl⟩ rfl rfl rfl rfl hl.1 rfl (lv_room (Nat.le_of_ble_eq_true rfl)) dX1_readSet_63 ⟨by first | exact Nat.le_refl _ | decide, by first | exact Nat.le_refl _ | decide⟩) (fun r Z63 H locs hp I => ?_)
          rcases hp with ⟨y63, hl63, hh63, hn63, hw63, he63, rfl, rfl⟩ | ⟨hw63, rfl, rfl⟩
          · skip
            have ck2 : chk (fT S b) (12 + 4 * v) = mWi (S.2 4 (b + (12 + 4 * v))) (nI (48 + 0)) (nI (48 + 9)) := by first | exact v3_t (f := fT S b) hv he4 he31 c_49 c_54 | exact v3_n (f := fT S b) hv he4 he31 (by omega) (by omega) (by omega)
            refine lv_istore (lv' := [(4, .int (nI (y63))), (3, .int (nI (y31))), (2, .int (nI (y4))), (0, .ref (o)), (1, .int (nI (en)))]) F.x F.b dX1_readSet_66 hl (by decide) rfl (fun ls hl => ?_)
            refine lv_iload F.x F.b dX1_readSet_68 (lv_at hl 0 rfl) ?_
            refine lv_bipush (v := (-9)) F.x F.b dX1_readSet_70 (by decide) ?_
            refine lv_icmp_ne (x := (nI (y63))) (y := (-9)) (tgt := 80) F.x F.b dX1_readSet_72 (by decide) (fun c_72 => ?_) (fun c_72 => absurd c_72 (by exact nI_n9 _ (by omega)))
            refine lv_bipush (v := nI (100)) F.x F.b dX1_readSet_80 (by decide) ?_
            refine lv_iload_n F.x F.b dX1_readSet_82 rfl (lv_at hl 2 rfl) ?_
            refine n_imul F dX1_readSet_83 ?_
            refine lv_bipush (v := nI (10)) F.x F.b dX1_readSet_84 (by decide) ?_
            refine lv_iload_n F.x F.b dX1_readSet_86 rfl (lv_at hl 1 rfl) ?_
            refine n_imul F dX1_readSet_87 ?_
            refine n_iadd F dX1_readSet_88 ?_
            refine lv_iload F.x F.b dX1_readSet_89 (lv_at hl 0 rfl) ?_
            refine n_iadd F dX1_readSet_91 ?_
            exact g_iret (u := (va_up (va_up (va_up S.1 14 (nI (b + ((10 + 4 * v) + 1)))) 14 (nI (b + ((11 + 4 * v) + 1)))) 14 (nI (b + ((12 + 4 * v) + 1))), S.2)) F I (by exact Or.inl ⟨100 * y4 + 10 * y31 + y63, by omega, st0, st1, ⟨hn63, by omega, ck2.trans hw63⟩, by rw [sv, dv_y (f := fT S b) he4 (by omega), dv_y (f := fT S b) he31 (by omega), dv_y (f := fT S b) he63 (by omega)], rfl, congrArg nI (by omega), mKr.rf.at _⟩) dX1_readSet_92 (by first | exact Nat.le_refl _ | decide) (by first | exact Nat.le_refl _ | decide)
          · skip
            have ck2 : chk (fT S b) (12 + 4 * v) = mWi (S.2 4 (b + (12 + 4 * v))) (nI (48 + 0)) (nI (48 + 9)) := by first | exact v3_t (f := fT S b) hv he4 he31 c_49 c_54 | exact v3_n (f := fT S b) hv he4 he31 (by omega) (by omega) (by omega)
            refine lv_istore (lv' := [(4, .int ((-9))), (3, .int (nI (y31))), (2, .int (nI (y4))), (0, .ref (o)), (1, .int (nI (en)))]) F.x F.b dX1_readSet_66 hl (by decide) rfl (fun ls hl => ?_)
            refine lv_iload F.x F.b dX1_readSet_68 (lv_at hl 0 rfl) ?_
            refine lv_bipush (v := (-9)) F.x F.b dX1_readSet_70 (by decide) ?_
            refine lv_icmp_ne (x := (-9)) (y := (-9)) (tgt := 80) F.x F.b dX1_readSet_72 (by decide) (fun c_72 => absurd c_72 (by exact fun z9 => z9 rfl)) (fun c_72 => ?_)
            refine lv_bipush (v := (-9)) F.x F.b dX1_readSet_75 (by decide) ?_
            refine lv_goto (tgt := 92) F.x F.b dX1_readSet_77 (by decide) ?_
            exact g_iret (u := (va_up (va_up S.1 14 (nI (b + ((10 + 4 * v) + 1)))) 14 (nI (b + ((11 + 4 * v) + 1))), S.2)) F I (by exact Or.inr ⟨2, by omega, fun x h1 h2 => by rcases (show x = 10 + 4 * v ∨ x = 11 + 4 * v by omega) with rfl | rfl <;> assumption, fun z9 => hw63 ⟨by have := z9.1; omega, by have h9 := z9.2.2; rw [show 10 + 4 * v + 2 = 12 + 4 * v by omega] at h9; exact ck2 ▸ h9⟩, rfl, congrArg nI (by omega), mKr.rf.at _⟩) dX1_readSet_92 (by first | exact Nat.le_refl _ | decide) (by first | exact Nat.le_refl _ | decide)
        · refine lv_iload_n F.x F.b dX1_readSet_52 rfl (lv_at hl 0 rfl) ?_
          refine lv_iconst (v := nI (5)) F.x F.b dX1_readSet_53 (by decide) ?_
          refine n_icmp_ne (tgt := 61) F (by omega) (by omega) dX1_readSet_54 (by decide) (fun c_54 => ?_) (fun c_54 => ?_)
          · refine lv_bipush (v := nI (9)) F.x F.b dX1_readSet_61 (by decide) ?_
            refine g_calli I (g_runV (n := 3) (ci := 0) (q0 := 0) (As := [.int (nI (en)), .int (nI (0)), .int (nI (9))]) (rest := []) F I (mt_digit l G o q ((va_up (va_up S.1 14 (nI (b + ((10 + 4 * v) + 1)))) 14 (nI (b + ((11 + 4 * v) + 1))), S.2)) (en) (0) (9) b (12 + 4 * v) n (by omega) (by omega) (by first | exact hat | exact congrArg nI (by omega)) (by omega) (by omega) (by omega) _) q1272 q1274 qs30 q56 q1275 hd_mt_digit ⟨Nat.le_of_ble_eq_true rfl, Nat.le_of_ble_eq_true rfl⟩ rfl rfl rfl rfl hl.1 rfl (lv_room (Nat.le_of_ble_eq_true rfl)) dX1_readSet_63 ⟨by first | exact Nat.le_refl _ | decide, by first | exact Nat.le_refl _ | decide⟩) (fun r Z63 H locs hp I => ?_)
            rcases hp with ⟨y63, hl63, hh63, hn63, hw63, he63, rfl, rfl⟩ | ⟨hw63, rfl, rfl⟩
            · skip
              have ck2 : chk (fT S b) (12 + 4 * v) = mWi (S.2 4 (b + (12 + 4 * v))) (nI (48 + 0)) (nI (48 + 9)) := by first | exact v3_t (f := fT S b) hv he4 he31 c_49 c_54 | exact v3_n (f := fT S b) hv he4 he31 (by omega) (by omega) (by omega)
              refine lv_istore (lv' := [(4, .int (nI (y63))), (3, .int (nI (y31))), (2, .int (nI (y4))), (0, .ref (o)), (1, .int (nI (en)))]) F.x F.b dX1_readSet_66 hl (by decide) rfl (fun ls hl => ?_)
              refine lv_iload F.x F.b dX1_readSet_68 (lv_at hl 0 rfl) ?_
              refine lv_bipush (v := (-9)) F.x F.b dX1_readSet_70 (by decide) ?_
              refine lv_icmp_ne (x := (nI (y63))) (y := (-9)) (tgt := 80) F.x F.b dX1_readSet_72 (by decide) (fun c_72 => ?_) (fun c_72 => absurd c_72 (by exact nI_n9 _ (by omega)))
              refine lv_bipush (v := nI (100)) F.x F.b dX1_readSet_80 (by decide) ?_
              refine lv_iload_n F.x F.b dX1_readSet_82 rfl (lv_at hl 2 rfl) ?_
              refine n_imul F dX1_readSet_83 ?_
              refine lv_bipush (v := nI (10)) F.x F.b dX1_readSet_84 (by decide) ?_
              refine lv_iload_n F.x F.b dX1_readSet_86 rfl (lv_at hl 1 rfl) ?_
              refine n_imul F dX1_readSet_87 ?_
              refine n_iadd F dX1_readSet_88 ?_
              refine lv_iload F.x F.b dX1_readSet_89 (lv_at hl 0 rfl) ?_
              refine n_iadd F dX1_readSet_91 ?_
              exact g_iret (u := (va_up (va_up (va_up S.1 14 (nI (b + ((10 + 4 * v) + 1)))) 14 (nI (b + ((11 + 4 * v) + 1)))) 14 (nI (b + ((12 + 4 * v) + 1))), S.2)) F I (by exact Or.inl ⟨100 * y4 + 10 * y31 + y63, by omega, st0, st1, ⟨hn63, by omega, ck2.trans hw63⟩, by rw [sv, dv_y (f := fT S b) he4 (by omega), dv_y (f := fT S b) he31 (by omega), dv_y (f := fT S b) he63 (by omega)], rfl, congrArg nI (by omega), mKr.rf.at _⟩) dX1_readSet_92 (by first | exact Nat.le_refl _ | decide) (by first | exact Nat.le_refl _ | decide)
            · skip
              have ck2 : chk (fT S b) (12 + 4 * v) = mWi (S.2 4 (b + (12 + 4 * v))) (nI (48 + 0)) (nI (48 + 9)) := by first | exact v3_t (f := fT S b) hv he4 he31 c_49 c_54 | exact v3_n (f := fT S b) hv he4 he31 (by omega) (by omega) (by omega)
              refine lv_istore (lv' := [(4, .int ((-9))), (3, .int (nI (y31))), (2, .int (nI (y4))), (0, .ref (o)), (1, .int (nI (en)))]) F.x F.b dX1_readSet_66 hl (by decide) rfl (fun ls hl => ?_)
              refine lv_iload F.x F.b dX1_readSet_68 (lv_at hl 0 rfl) ?_
              refine lv_bipush (v := (-9)) F.x F.b dX1_readSet_70 (by decide) ?_
              refine lv_icmp_ne (x := (-9)) (y := (-9)) (tgt := 80) F.x F.b dX1_readSet_72 (by decide) (fun c_72 => absurd c_72 (by exact fun z9 => z9 rfl)) (fun c_72 => ?_)
              refine lv_bipush (v := (-9)) F.x F.b dX1_readSet_75 (by decide) ?_
              refine lv_goto (tgt := 92) F.x F.b dX1_readSet_77 (by decide) ?_
              exact g_iret (u := (va_up (va_up S.1 14 (nI (b + ((10 + 4 * v) + 1)))) 14 (nI (b + ((11 + 4 * v) + 1))), S.2)) F I (by exact Or.inr ⟨2, by omega, fun x h1 h2 => by rcases (show x = 10 + 4 * v ∨ x = 11 + 4 * v by omega) with rfl | rfl <;> assumption, fun z9 => hw63 ⟨by have := z9.1; omega, by have h9 := z9.2.2; rw [show 10 + 4 * v + 2 = 12 + 4 * v by omega] at h9; exact ck2 ▸ h9⟩, rfl, congrArg nI (by omega), mKr.rf.at _⟩) dX1_readSet_92 (by first | exact Nat.le_refl _ | decide) (by first | exact Nat.le_refl _ | decide)
          · refine lv_iconst (v := nI (5)) F.x F.b dX1_readSet_57 (by decide) ?_
            refine lv_goto (tgt := 63) F.x F.b dX1_readSet_58 (by decide) ?_
            refine g_calli I (g_runV (n := 3) (ci := 0) (q0 := 0) (As := [.int (nI (en)), .int (nI (0)), .int (nI (5))]) (rest := []) F I (mt_digit l G o q ((va_up (va_up S.1 14 (nI (b + ((10 + 4 * v) + 1)))) 14 (nI (b + ((11 + 4 * v) + 1))), S.2)) (en) (0) (5) b (12 + 4 * v) n (by omega) (by omega) (by first | exact hat | exact congrArg nI (by omega)) (by omega) (by omega) (by omega) _) q1272 q1274 qs30 q56 q1275 hd_mt_digit ⟨Nat.le_of_ble_eq_true rfl, Nat.le_of_ble_eq_true rfl⟩ rfl rfl rfl rfl hl.1 rfl (lv_room (Nat.le_of_ble_eq_true rfl)) dX1_readSet_63 ⟨by first | exact Nat.le_refl _ | decide, by first | exact Nat.le_refl _ | decide⟩) (fun r Z63 H locs hp I => ?_)
            rcases hp with ⟨y63, hl63, hh63, hn63, hw63, he63, rfl, rfl⟩ | ⟨hw63, rfl, rfl⟩
            · skip
              have ck2 : chk (fT S b) (12 + 4 * v) = mWi (S.2 4 (b + (12 + 4 * v))) (nI (48 + 0)) (nI (48 + 5)) := by first | exact v3_t (f := fT S b) hv he4 he31 c_49 c_54 | exact v3_n (f := fT S b) hv he4 he31 (by omega) (by omega) (by omega)
              refine lv_istore (lv' := [(4, .int (nI (y63))), (3, .int (nI (y31))), (2, .int (nI (y4))), (0, .ref (o)), (1, .int (nI (en)))]) F.x F.b dX1_readSet_66 hl (by decide) rfl (fun ls hl => ?_)
              refine lv_iload F.x F.b dX1_readSet_68 (lv_at hl 0 rfl) ?_
              refine lv_bipush (v := (-9)) F.x F.b dX1_readSet_70 (by decide) ?_
              refine lv_icmp_ne (x := (nI (y63))) (y := (-9)) (tgt := 80) F.x F.b dX1_readSet_72 (by decide) (fun c_72 => ?_) (fun c_72 => absurd c_72 (by exact nI_n9 _ (by omega)))
              refine lv_bipush (v := nI (100)) F.x F.b dX1_readSet_80 (by decide) ?_
              refine lv_iload_n F.x F.b dX1_readSet_82 rfl (lv_at hl 2 rfl) ?_
              refine n_imul F dX1_readSet_83 ?_
              refine lv_bipush (v := nI (10)) F.x F.b dX1_readSet_84 (by decide) ?_
              refine lv_iload_n F.x F.b dX1_readSet_86 rfl (lv_at hl 1 rfl) ?_
              refine n_imul F dX1_readSet_87 ?_
              refine n_iadd F dX1_readSet_88 ?_
              refine lv_iload F.x F.b dX1_readSet_89 (lv_at hl 0 rfl) ?_
              refine n_iadd F dX1_readSet_91 ?_
              exact g_iret (u := (va_up (va_up (va_up S.1 14 (nI (b + ((10 + 4 * v) + 1)))) 14 (nI (b + ((11 + 4 * v) + 1)))) 14 (nI (b + ((12 + 4 * v) + 1))), S.2)) F I (by exact Or.inl ⟨100 * y4 + 10 * y31 + y63, by omega, st0, st1, ⟨hn63, by omega, ck2.trans hw63⟩, by rw [sv, dv_y (f := fT S b) he4 (by omega), dv_y (f := fT S b) he31 (by omega), dv_y (f := fT S b) he63 (by omega)], rfl, congrArg nI (by omega), mKr.rf.at _⟩) dX1_readSet_92 (by first | exact Nat.le_refl _ | decide) (by first | exact Nat.le_refl _ | decide)
            · skip
              have ck2 : chk (fT S b) (12 + 4 * v) = mWi (S.2 4 (b + (12 + 4 * v))) (nI (48 + 0)) (nI (48 + 5)) := by first | exact v3_t (f := fT S b) hv he4 he31 c_49 c_54 | exact v3_n (f := fT S b) hv he4 he31 (by omega) (by omega) (by omega)
              refine lv_istore (lv' := [(4, .int ((-9))), (3, .int (nI (y31))), (2, .int (nI (y4))), (0, .ref (o)), (1, .int (nI (en)))]) F.x F.b dX1_readSet_66 hl (by decide) rfl (fun ls hl => ?_)
              refine lv_iload F.x F.b dX1_readSet_68 (lv_at hl 0 rfl) ?_
              refine lv_bipush (v := (-9)) F.x F.b dX1_readSet_70 (by decide) ?_
              refine lv_icmp_ne (x := (-9)) (y := (-9)) (tgt := 80) F.x F.b dX1_readSet_72 (by decide) (fun c_72 => absurd c_72 (by exact fun z9 => z9 rfl)) (fun c_72 => ?_)
              refine lv_bipush (v := (-9)) F.x F.b dX1_readSet_75 (by decide) ?_
              refine lv_goto (tgt := 92) F.x F.b dX1_readSet_77 (by decide) ?_
              exact g_iret (u := (va_up (va_up S.1 14 (nI (b + ((10 + 4 * v) + 1)))) 14 (nI (b + ((11 + 4 * v) + 1))), S.2)) F I (by exact Or.inr ⟨2, by omega, fun x h1 h2 => by rcases (show x = 10 + 4 * v ∨ x = 11 + 4 * v by omega) with rfl | rfl <;> assumption, fun z9 => hw63 ⟨by have := z9.1; omega, by have h9 := z9.2.2; rw [show 10 + 4 * v + 2 = 12 + 4 * v by omega] at h9; exact ck2 ▸ h9⟩, rfl, congrArg nI (by omega), mKr.rf.at _⟩) dX1_readSet_92 (by first | exact Nat.le_refl _ | decide) (by first | exact Nat.le_refl _ | decide)
      · skip
        have ck1 : chk (fT S b) (11 + 4 * v) = mWi (S.2 4 (b + (11 + 4 * v))) (nI (48 + 0)) (nI (48 + 5)) := by first | exact v2_t (f := fT S b) hv he4 c_22 | exact v2_n (f := fT S b) hv he4 (by omega) c_22
        refine lv_istore_n (lv' := [(3, .int ((-9))), (2, .int (nI (y4))), (0, .ref (o)), (1, .int (nI (en)))]) F.x F.b dX1_readSet_34 rfl hl (by decide) rfl (fun ls hl => ?_)
        refine lv_iload_n F.x F.b dX1_readSet_35 rfl (lv_at hl 0 rfl) ?_
        refine lv_bipush (v := (-9)) F.x F.b dX1_readSet_36 (by decide) ?_
        refine lv_icmp_ne (x := (-9)) (y := (-9)) (tgt := 44) F.x F.b dX1_readSet_38 (by decide) (fun c_38 => absurd c_38 (by exact fun z9 => z9 rfl)) (fun c_38 => ?_)
        refine lv_bipush (v := (-9)) F.x F.b dX1_readSet_41 (by decide) ?_
        exact g_iret (u := (va_up S.1 14 (nI (b + ((10 + 4 * v) + 1))), S.2)) F I (by exact Or.inr ⟨1, by omega, fun x h1 h2 => by rw [show x = 10 + 4 * v by omega]; exact st0, fun z9 => hw31 ⟨by have := z9.1; omega, by have h9 := z9.2.2; rw [show 10 + 4 * v + 1 = 11 + 4 * v by omega] at h9; exact ck1 ▸ h9⟩, rfl, congrArg nI (by omega), mKr.rf.at _⟩) dX1_readSet_43 (by first | exact Nat.le_refl _ | decide) (by first | exact Nat.le_refl _ | decide)
  · skip
    refine lv_istore_n (lv' := [(2, .int ((-9))), (0, .ref (o)), (1, .int (nI (en)))]) F.x F.b dX1_readSet_7 rfl hl (by decide) rfl (fun ls hl => ?_)
    refine lv_iload_n F.x F.b dX1_readSet_8 rfl (lv_at hl 0 rfl) ?_
    refine lv_bipush (v := (-9)) F.x F.b dX1_readSet_9 (by decide) ?_
    refine lv_icmp_ne (x := (-9)) (y := (-9)) (tgt := 17) F.x F.b dX1_readSet_11 (by decide) (fun c_11 => absurd c_11 (by exact fun z9 => z9 rfl)) (fun c_11 => ?_)
    refine lv_bipush (v := (-9)) F.x F.b dX1_readSet_14 (by decide) ?_
    exact g_iret (u := S) F I (by exact Or.inr ⟨0, by omega, fun x h1 h2 => by omega, fun z9 => hw4 ⟨z9.1, by have h9 := z9.2.2; rw [Nat.add_zero, chk_v1 _ hv] at h9; exact h9⟩, rfl, hat, mKr.rf⟩) dX1_readSet_16 (by first | exact Nat.le_refl _ | decide) (by first | exact Nat.le_refl _ | decide)
