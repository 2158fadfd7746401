/-! PLAIN LAW, 4, and the reference: sheets -/
set_option maxRecDepth 100000
/-- sheets: L 2 k its sort (99: none), L 3 k how long, C k its cells -/
def mSh (S : MS) (L : LD) (C : Nat → Nat → Int32) : Prop := (∀ k, k < 4 → S.2 2 k = eN (L 2 k)) ∧ ∀ k, k < 4 → L 2 k ≠ 99 → S.2 3 k = nI (L 3 k) ∧ ∀ i, i < L 3 k → S.2 4 (60 * k + i) = C k i
def SOk (L : LD) : Prop := ∀ k, k < 4 → (L 2 k = 99 ∨ L 2 k ≤ 2) ∧ (L 2 k ≠ 99 → L 3 k ≤ 60)
theorem mSh_keep {S S' : MS} {L : LD} {C : Nat → Nat → Int32} (h : mSh S L C) (k : mKeep S S') : mSh S' L C := by
  obtain ⟨b1, b2, b3, b4, b5, b6, b7, b8, b9, b10, b11, b12, b13, b14, b15, b16, b17⟩ := k
  unfold mSh
  rw [b6, b7, b8]
  exact h
def okSheet (k s n : Int32) : Bool := mWi k 0 3 && (mWi s 0 2 && (!decide (60 < n) && !decide (n < 0)))
def aSheet (k s n : Int32) : Int32 := if mWi k 0 3 then (if mWi s 0 2 && !decide (60 < n) then (if n < 0 then -14 else 1) else -2) else -1
def fSheet (k s n : Int32) : Int32 := if mWi k 0 3 && (mWi s 0 2 && (!decide (60 < n) && decide (n < 0))) then 4 else 0
def lSheet (L : LD) (k s n : Int32) : LD := if okSheet k s n then lUp (lUp L 2 k.toNatClampNeg s.toNatClampNeg) 3 k.toNatClampNeg n.toNatClampNeg else L
def cSheet (C : Nat → Nat → Int32) (k s n : Int32) : Nat → Nat → Int32 := if okSheet k s n then va_up C k.toNatClampNeg (fun _ => 0) else C
def aLose (L : LD) (k : Int32) : Int32 := if mWi k 0 3 then (if L 2 k.toNatClampNeg = 99 then 0 else 1) else -1
def lLose (L : LD) (k : Int32) : LD := if mWi k 0 3 then lUp L 2 k.toNatClampNeg 99 else L
def nrw (s : Nat) (v : Int32) : Int32 := if s = 0 then v.toInt8.toInt32 else if s = 1 then v.toInt16.toInt32 else v
def aPut (L : LD) (k i : Int32) : Int32 := if mWi k 0 3 then (if L 2 k.toNatClampNeg = 99 then -11 else if mWi i 0 (nI (L 3 k.toNatClampNeg) - 1) then 1 else -13) else -1
def fPut (L : LD) (k i : Int32) : Int32 := if mWi k 0 3 then (if L 2 k.toNatClampNeg = 99 then 1 else if mWi i 0 (nI (L 3 k.toNatClampNeg) - 1) then 0 else 3) else 0
def cPut (L : LD) (C : Nat → Nat → Int32) (k i v : Int32) : Nat → Nat → Int32 := if mWi k 0 3 then (if L 2 k.toNatClampNeg = 99 then C else if mWi i 0 (nI (L 3 k.toNatClampNeg) - 1) then va_up C k.toNatClampNeg (upd (C k.toNatClampNeg) i.toNatClampNeg (nrw (L 2 k.toNatClampNeg) v)) else C) else C
def aCell (L : LD) (C : Nat → Nat → Int32) (k i s : Int32) : Int64 := if mWi k 0 3 && mWi s 0 2 then (if L 2 k.toNatClampNeg = 99 then -9223372036854775808 else if nI (L 2 k.toNatClampNeg) = s then (if mWi i 0 (nI (L 3 k.toNatClampNeg) - 1) then (C k.toNatClampNeg i.toNatClampNeg).toInt64 else -9223372036854775808) else -9223372036854775808) else -9223372036854775808
def fCell (L : LD) (k i s : Int32) : Int32 := if mWi k 0 3 && mWi s 0 2 then (if L 2 k.toNatClampNeg = 99 then 1 else if nI (L 2 k.toNatClampNeg) = s then (if mWi i 0 (nI (L 3 k.toNatClampNeg) - 1) then 0 else 3) else 2) else 0
theorem wi_m1 {x : Int32} {n : Nat} (hn : n < 2 ^ 30) (h : mWi x 0 (nI n - 1) = true) : ∃ j, j < n ∧ x = nI j := by
  cases n with
  | zero =>
    unfold mWi at h
    rw [Bool.and_eq_true, Bool.not_eq_true', Bool.not_eq_true', decide_eq_false_iff_not, decide_eq_false_iff_not] at h
    obtain ⟨j, hj, rfl⟩ := nI_of h.1
    exact absurd (Int32.lt_of_lt_of_le (show nI 0 - 1 < nI 0 by decide) (nI_le (Nat.zero_le j) hj)) h.2
  | succ n =>
    rw [nI_pred] at h
    obtain ⟨j, hj, e⟩ := wi_n (m := n) (by omega) h
    exact ⟨j, by omega, e⟩
theorem mSh_put {S : MS} {L : LD} {C : Nat → Nat → Int32} {k i : Nat} {y : Int32} (h : mSh S L C) (hO : SOk L) (hk : k < 4) (hi : i < L 3 k) (hs : L 2 k ≠ 99) : mSh (S.1, va_up S.2 4 (upd (S.2 4) (60 * k + i) y)) L (va_up C k (upd (C k) i y)) := by
  refine ⟨h.1, fun k' hk' hs' => ⟨(h.2 k' hk' hs').1, fun i' hi' => ?_⟩⟩
  show upd (S.2 4) (60 * k + i) y (60 * k' + i') = va_up C k (upd (C k) i y) k' i'
  have a1 := (hO k hk).2 hs
  have a2 := (hO k' hk').2 hs'
  unfold upd va_up
  by_cases e : k' = k
  · subst e
    rw [if_pos rfl]
    by_cases e2 : i' = i
    · rw [if_pos e2, if_pos (by rw [e2])]
    · rw [if_neg e2, if_neg (by omega)]; exact (h.2 k' hk' hs').2 i' hi'
  · rw [if_neg e, if_neg (by omega)]; exact (h.2 k' hk' hs').2 i' hi'
theorem mSh_lose {S : MS} {L : LD} {C : Nat → Nat → Int32} {k : Nat} (h : mSh S L C) : mSh (S.1, va_up S.2 2 (upd (S.2 2) k (-9))) (lUp L 2 k 99) C := by
  refine ⟨fun k' hk' => ?_, fun k' hk' hs' => ?_⟩
  · show upd (S.2 2) k (-9) k' = eN (va_up (L 2) k 99 k')
    unfold upd va_up; split
    · rfl
    · exact h.1 k' hk'
  · have hs' : va_up (L 2) k 99 k' ≠ 99 := hs'
    unfold va_up at hs'
    split at hs'
    · exact absurd rfl hs'
    · exact h.2 k' hk' hs'
/-- a sheet is made: its cells are blank up to n -/
theorem mSh_new {S S1 : MS} {L : LD} {C : Nat → Nat → Int32} {k s n : Nat} (h : mSh S L C) (hO : SOk L) (hk : k < 4) (hs : s ≤ 2) (hn : n ≤ 60) (e2 : S1.2 2 = upd (S.2 2) k (nI s)) (e3 : S1.2 3 = upd (S.2 3) k (nI n)) (h0 : ∀ i, i < 60 → S1.2 4 (60 * k + i) = 0) (h1 : ∀ x, (x < 60 * k ∨ 60 * k + 60 ≤ x) → S1.2 4 x = S.2 4 x) : mSh S1 (lUp (lUp L 2 k s) 3 k n) (va_up C k (fun _ => 0)) := by
  refine ⟨fun k' hk' => ?_, fun k' hk' hs' => ?_⟩
  · show S1.2 2 k' = eN (va_up (L 2) k s k')
    rw [e2]; unfold upd va_up; split
    · exact (eN_i (by omega)).symm
    · exact h.1 k' hk'
  · have hs' : va_up (L 2) k s k' ≠ 99 := hs'
    show S1.2 3 k' = nI (va_up (L 3) k n k') ∧ ∀ i, i < va_up (L 3) k n k' → S1.2 4 (60 * k' + i) = va_up C k (fun _ => 0) k' i
    rw [e3]
    unfold upd va_up at *
    by_cases e : k' = k
    · subst e
      rw [if_pos rfl, if_pos rfl, if_pos rfl]
      exact ⟨rfl, fun i hi => h0 i (by omega)⟩
    · rw [if_neg e] at hs'
      rw [if_neg e, if_neg e, if_neg e]
      refine ⟨(h.2 k' hk' hs').1, fun i hi => ?_⟩
      have := (hO k' hk').2 hs'
      rw [h1 _ (by omega)]; exact (h.2 k' hk' hs').2 i hi

theorem le_n {x : Int32} {m : Nat} (h : x ≤ nI m) (h0 : 0 ≤ x) (hm : m < 2 ^ 31 := by decide) : ∃ j, j ≤ m ∧ x = nI j := by
  obtain ⟨j, hj, rfl⟩ := nI_of (Int32.not_lt.mpr h0)
  exact ⟨j, (nI_leI hj hm).mp h, rfl⟩
theorem hd_mt_sheet : yX1_sheet.cls = RX1 ∧ yX1_sheet.cls ≠ "java/lang/invoke/MethodHandle" ∧ yX1_sheet.cls ≠ "java/lang/invoke/VarHandle" ∧ (parseMethodDescriptor yX1_sheet.desc).map (fun d => d.parameters.length) = some 3 := by decide +kernel
set_option maxHeartbeats 4000000 in
theorem mt_sheet (l : Launch) (G : gG) (o : Nat) (q : Nat → Nat) (S : MS) (x : Int32) (v : Int32) (y : Int32) (L : LD) (C : Nat → Nat → Int32) (hO : SOk L) (hC : mSh S L C) : gMi l yX1_sheet cX1_sheet 5 (some .int) ({ frames := 2, cells := 0, slots := 0, locals := 42 } : Room) G [.ref o, .int (x), .int (v), .int (y)] (mW G o q S) (fun S' => mW G o q S') (fun ρ S' => aSheet x v y = ρ ∧ S'.1 0 = fSheet x v y ∧ mSh S' (lSheet L x v y) (cSheet C x v y) ∧ mKeep (va_up S'.1 0 (S.1 0), va_up (va_up (va_up S'.2 2 (S.2 2)) 3 (S.2 3)) 4 (S.2 4)) S) := by
  refine gMi_of (by decide) (Nat.le_of_ble_eq_true rfl) ?_
  intro p e s m below meth c ls A F I hl
  have hl : lv_has ls 5 [(0, .ref (o)), (1, .int (x)), (2, .int (v)), (3, .int (y))] := hl
  refine lv_aload_n F.x F.b dX1_sheet_0 rfl (lv_at hl 0 rfl) ?_
  refine lv_iconst (v := nI (0)) F.x F.b dX1_sheet_1 (by decide) ?_
  refine m_put F I 0 (by decide) q1155 dX1_sheet_2 (fun H locs (I : Iw G A s (mW G o q (va_up S.1 0 (0), S.2)) H locs) => ?_)
  refine lv_iload_n F.x F.b dX1_sheet_5 rfl (lv_at hl 1 rfl) ?_
  refine g_calli I (g_runS (n := 1) (As := [.int (x)]) (rest := []) F I (mt_isSheet l G _ (x)   _) q1247 q1248 q56 q1249 hd_mt_isSheet.2 ⟨Nat.le_of_ble_eq_true rfl, Nat.le_of_ble_eq_true rfl⟩ rfl rfl hl.1 rfl (lv_room (Nat.le_of_ble_eq_true rfl)) dX1_sheet_6 ⟨by first | exact Nat.le_refl _ | decide, by first | exact Nat.le_refl _ | decide⟩) (fun r u_ H locs hp I => ?_)
  obtain rfl := hp
  refine z_ne (tgt := 14) F dX1_sheet_9 (by decide) (fun c_9 => ?_) (fun c_9 => ?_)
  · obtain ⟨k, hk, rfl⟩ := wi_n (m := 3) (by decide) c_9
    have tk : (nI k).toNatClampNeg = k := nI_clamp (by omega)
    refine lv_iload_n F.x F.b dX1_sheet_14 rfl (lv_at hl 2 rfl) ?_
    refine g_calli I (g_runS (n := 1) (As := [.int (v)]) (rest := []) F I (mt_isSort l G _ (v)   _) q1253 q1254 q56 q1255 hd_mt_isSort.2 ⟨Nat.le_of_ble_eq_true rfl, Nat.le_of_ble_eq_true rfl⟩ rfl rfl hl.1 rfl (lv_room (Nat.le_of_ble_eq_true rfl)) dX1_sheet_15 ⟨by first | exact Nat.le_refl _ | decide, by first | exact Nat.le_refl _ | decide⟩) (fun r u_ H locs hp I => ?_)
    obtain rfl := hp
    refine z_eq (tgt := 27) F dX1_sheet_18 (by decide) (fun c_18 => ?_) (fun c_18 => ?_)
    · refine lv_bipush (v := (-2)) F.x F.b dX1_sheet_27 (by decide) ?_
      exact g_iret (u := (va_up S.1 0 (0), S.2)) F I (by exact ⟨by simp [aSheet, ← Int32.not_le, *], by simp [fSheet, ← Int32.not_le, *, va_up], by rw [lSheet, cSheet, if_neg (by simp [okSheet, ← Int32.not_le, *]), if_neg (by simp [okSheet, ← Int32.not_le, *])]; exact hC, by exact ⟨rfl, rfl, rfl, rfl, rfl, rfl, rfl, rfl, rfl, rfl, rfl, rfl, rfl, rfl, rfl, rfl, rfl⟩⟩) dX1_sheet_29 (by first | exact Nat.le_refl _ | decide) (by first | exact Nat.le_refl _ | decide)
    · obtain ⟨sr, hsr, rfl⟩ := wi_n (m := 2) (by decide) c_18
      have tsr : (nI sr).toNatClampNeg = sr := nI_clamp (by omega)
      refine lv_iload_n F.x F.b dX1_sheet_21 rfl (lv_at hl 3 rfl) ?_
      refine lv_bipush (v := nI (60)) F.x F.b dX1_sheet_22 (by decide) ?_
      refine lv_icmp_le (x := y) (y := 60) (tgt := 30) F.x F.b dX1_sheet_24 (by decide) (fun c_24 => ?_) (fun c_24 => ?_)
      · refine lv_iload_n F.x F.b dX1_sheet_30 rfl (lv_at hl 3 rfl) ?_
        refine lv_if_ge (x := y) (tgt := 40) F.x F.b dX1_sheet_31 (by decide) (fun c_31 => ?_) (fun c_31 => ?_)
        · obtain ⟨n, hn, rfl⟩ := le_n (m := 60) c_24 c_31
          have tn : (nI n).toNatClampNeg = n := nI_clamp (by omega)
          refine lv_aload_n F.x F.b dX1_sheet_40 rfl (lv_at hl 0 rfl) ?_
          refine m_geta F I 2 (by decide) q1157 dX1_sheet_41 ?_
          refine lv_iload_n F.x F.b dX1_sheet_44 rfl (lv_at hl 1 rfl) ?_
          refine lv_iload_n F.x F.b dX1_sheet_45 rfl (lv_at hl 2 rfl) ?_
          refine m_st F I 2 (by decide) (show k < 4 by omega) dX1_sheet_46 (fun H locs (I : Iw G A s (mW G o q (va_up S.1 0 (0), va_up S.2 2 (upd (S.2 2) (k) (nI (sr))))) H locs) => ?_)
          refine lv_aload_n F.x F.b dX1_sheet_47 rfl (lv_at hl 0 rfl) ?_
          refine m_geta F I 3 (by decide) q1158 dX1_sheet_48 ?_
          refine lv_iload_n F.x F.b dX1_sheet_51 rfl (lv_at hl 1 rfl) ?_
          refine lv_iload_n F.x F.b dX1_sheet_52 rfl (lv_at hl 3 rfl) ?_
          refine m_st F I 3 (by decide) (show k < 4 by omega) dX1_sheet_53 (fun H locs (I : Iw G A s (mW G o q (va_up S.1 0 (0), va_up (va_up S.2 2 (upd (S.2 2) (k) (nI (sr)))) 3 (upd (S.2 3) (k) (nI (n))))) H locs) => ?_)
          refine lv_iconst (v := nI (0)) F.x F.b dX1_sheet_54 (by decide) ?_
          refine lv_istore (lv' := [(4, .int (nI (0))), (0, .ref (o)), (1, .int (nI (k))), (2, .int (nI (sr))), (3, .int (nI (n)))]) F.x F.b dX1_sheet_55 hl (by decide) rfl (fun ls hl => ?_)
          refine W_ind 57 (fun _ => []) (fun n_J => n_J) (fun n_J H locs ls => ∃ (i : Nat) (S1 : MS), n_J = 60 - i ∧ (i ≤ 60) ∧ (S1.1 0 = 0) ∧ (mKeep (va_up S1.1 0 (S.1 0), va_up (va_up (va_up S1.2 2 (S.2 2)) 3 (S.2 3)) 4 (S.2 4)) S) ∧ (S1.2 2 = upd (S.2 2) k (nI sr)) ∧ (S1.2 3 = upd (S.2 3) k (nI n)) ∧ (∀ a, a < i → S1.2 4 (60 * k + a) = 0) ∧ (∀ x, (x < 60 * k ∨ 60 * k + 60 ≤ x) → S1.2 4 x = S.2 4 x) ∧  Iw G A s (mW G o q S1) H locs ∧ lv_has ls 5 [(0, .ref (o)), (1, .int (nI (k))), (2, .int (nI (sr))), (3, .int (nI (n))), (4, .int (nI (i)))]) ?_ _ ⟨0, (va_up S.1 0 (0), va_up (va_up S.2 2 (upd (S.2 2) (k) (nI (sr)))) 3 (upd (S.2 3) (k) (nI (n)))), rfl, by omega, by rfl, by exact ⟨rfl, rfl, rfl, rfl, rfl, rfl, rfl, rfl, rfl, rfl, rfl, rfl, rfl, rfl, rfl, rfl, rfl⟩, by rfl, by rfl, by exact fun a h => absurd h (Nat.not_lt_zero _), by exact fun _ _ => rfl, I, lv_sub hl [1, 2, 3, 4, 0] rfl⟩
          intro n57 H locs ls hJ ih57
          obtain ⟨i, S1, hn57, hi, hf, hkk, e2, e3, h0, h1, I, hl⟩ := hJ
          refine lv_iload F.x F.b dX1_sheet_57 (lv_at hl 4 rfl) ?_
          refine lv_bipush (v := nI (60)) F.x F.b dX1_sheet_59 (by decide) ?_
          refine n_icmp_ge (tgt := 83) F (by omega) (by omega) dX1_sheet_61 (by decide) (fun c_61 => ?_) (fun c_61 => ?_)
          · refine lv_iconst (v := nI (1)) F.x F.b dX1_sheet_83 (by decide) ?_
            exact g_iret (v := 1) (u := S1) F I (by exact ⟨by simp [aSheet, ← Int32.not_le, *], by rw [fSheet, if_neg (by simp [← Int32.not_le, *])]; exact hf, by rw [lSheet, cSheet, if_pos (by simp [okSheet, ← Int32.not_le, *]), if_pos (by simp [okSheet, ← Int32.not_le, *]), tk, tsr, tn]; exact mSh_new hC hO (by omega) (by omega) (by omega) e2 e3 (fun i hi => h0 i (by omega)) h1, hkk⟩) dX1_sheet_84 (by first | exact Nat.le_refl _ | decide) (by first | exact Nat.le_refl _ | decide)
          · refine lv_aload_n F.x F.b dX1_sheet_64 rfl (lv_at hl 0 rfl) ?_
            refine m_geta F I 4 (by decide) q1159 dX1_sheet_65 ?_
            refine lv_bipush (v := nI (60)) F.x F.b dX1_sheet_68 (by decide) ?_
            refine lv_iload_n F.x F.b dX1_sheet_70 rfl (lv_at hl 1 rfl) ?_
            refine n_imul F dX1_sheet_71 ?_
            refine lv_iload F.x F.b dX1_sheet_72 (lv_at hl 4 rfl) ?_
            refine n_iadd F dX1_sheet_74 ?_
            refine lv_iconst (v := nI (0)) F.x F.b dX1_sheet_75 (by decide) ?_
            refine m_st F I 4 (by decide) (show ((60 * k) + i) < 240 by omega) dX1_sheet_76 (fun H locs (I : Iw G A s (mW G o q (S1.1, va_up S1.2 4 (upd (S1.2 4) (((60 * k) + i)) (nI (0))))) H locs) => ?_)
            refine lv_iinc (v := nI ((i + 1))) (lv' := [(4, .int (nI ((i + 1)))), (0, .ref (o)), (1, .int (nI (k))), (2, .int (nI (sr))), (3, .int (nI (n)))]) F.x F.b dX1_sheet_77 hl (k := 4) rfl (nI_1 (i)) (by decide) rfl (fun ls hl => ?_)
            refine lv_goto (tgt := 57) F.x F.b dX1_sheet_80 (by decide) ?_
            exact ih57 _ _ _ _ (by omega) ⟨i + 1, (S1.1, va_up S1.2 4 (upd (S1.2 4) (((60 * k) + i)) (nI (0)))), rfl, by omega, by exact hf, by exact hkk, by exact e2, by exact e3, by intro a ha; show upd (S1.2 4) (60 * k + i) (nI 0) (60 * k + a) = 0; unfold upd; split <;> first | rfl | exact h0 a (by omega), by intro x hx; show upd (S1.2 4) (60 * k + i) (nI 0) x = S.2 4 x; unfold upd; rw [if_neg (by omega)]; exact h1 x hx, I, lv_sub hl [1, 2, 3, 4, 0] rfl⟩
        · refine lv_aload_n F.x F.b dX1_sheet_34 rfl (lv_at hl 0 rfl) ?_
          refine lv_iconst (v := nI (4)) F.x F.b dX1_sheet_35 (by decide) ?_
          refine g_calli I (g_runV (n := 1) (ci := 0) (q0 := 0) (As := [.int (nI (4))]) (rest := []) F I (mt_fails l G o q ((va_up S.1 0 (0), S.2)) (4)   _) q1260 q1262 qs27 q56 q1263 hd_mt_fails ⟨Nat.le_of_ble_eq_true rfl, Nat.le_of_ble_eq_true rfl⟩ rfl rfl rfl rfl hl.1 rfl (lv_room (Nat.le_of_ble_eq_true rfl)) dX1_sheet_36 ⟨by first | exact Nat.le_refl _ | decide, by first | exact Nat.le_refl _ | decide⟩) (fun r u_ H locs hp I => ?_)
          obtain ⟨rfl, rfl⟩ := hp
          exact g_iret (u := (va_up (va_up S.1 0 (0)) 0 (4), S.2)) F I (by exact ⟨by simp [aSheet, ← Int32.not_le, *], by simp [fSheet, ← Int32.not_le, *, va_up], by rw [lSheet, cSheet, if_neg (by simp [okSheet, ← Int32.not_le, *]), if_neg (by simp [okSheet, ← Int32.not_le, *])]; exact hC, by exact ⟨rfl, rfl, rfl, rfl, rfl, rfl, rfl, rfl, rfl, rfl, rfl, rfl, rfl, rfl, rfl, rfl, rfl⟩⟩) dX1_sheet_39 (by first | exact Nat.le_refl _ | decide) (by first | exact Nat.le_refl _ | decide)
      · refine lv_bipush (v := (-2)) F.x F.b dX1_sheet_27 (by decide) ?_
        exact g_iret (u := (va_up S.1 0 (0), S.2)) F I (by exact ⟨by simp [aSheet, ← Int32.not_le, *], by simp [fSheet, ← Int32.not_le, *, va_up], by rw [lSheet, cSheet, if_neg (by simp [okSheet, ← Int32.not_le, *]), if_neg (by simp [okSheet, ← Int32.not_le, *])]; exact hC, by exact ⟨rfl, rfl, rfl, rfl, rfl, rfl, rfl, rfl, rfl, rfl, rfl, rfl, rfl, rfl, rfl, rfl, rfl⟩⟩) dX1_sheet_29 (by first | exact Nat.le_refl _ | decide) (by first | exact Nat.le_refl _ | decide)
  · refine lv_iconst (v := (-1)) F.x F.b dX1_sheet_12 (by decide) ?_
    exact g_iret (u := (va_up S.1 0 (0), S.2)) F I (by exact ⟨by simp [aSheet, ← Int32.not_le, *], by simp [fSheet, ← Int32.not_le, *, va_up], by rw [lSheet, cSheet, if_neg (by simp [okSheet, ← Int32.not_le, *]), if_neg (by simp [okSheet, ← Int32.not_le, *])]; exact hC, by exact ⟨rfl, rfl, rfl, rfl, rfl, rfl, rfl, rfl, rfl, rfl, rfl, rfl, rfl, rfl, rfl, rfl, rfl⟩⟩) dX1_sheet_13 (by first | exact Nat.le_refl _ | decide) (by first | exact Nat.le_refl _ | decide)

theorem hd_mt_lose : yX1_lose.cls = RX1 ∧ yX1_lose.cls ≠ "java/lang/invoke/MethodHandle" ∧ yX1_lose.cls ≠ "java/lang/invoke/VarHandle" ∧ (parseMethodDescriptor yX1_lose.desc).map (fun d => d.parameters.length) = some 1 := by decide +kernel
set_option maxHeartbeats 4000000 in
theorem mt_lose (l : Launch) (G : gG) (o : Nat) (q : Nat → Nat) (S : MS) (x : Int32) (L : LD) (C : Nat → Nat → Int32) (hO : SOk L) (hC : mSh S L C) : gMi l yX1_lose cX1_lose 3 (some .int) ({ frames := 2, cells := 0, slots := 0, locals := 42 } : Room) G [.ref o, .int (x)] (mW G o q S) (fun S' => mW G o q S') (fun ρ S' => aLose L x = ρ ∧ mSh S' (lLose L x) C ∧ mKeep (S'.1, va_up S'.2 2 (S.2 2)) S) := by
  refine gMi_of (by decide) (Nat.le_of_ble_eq_true rfl) ?_
  intro p e s m below meth c ls A F I hl
  have hl : lv_has ls 3 [(0, .ref (o)), (1, .int (x))] := hl
  refine lv_iload_n F.x F.b dX1_lose_0 rfl (lv_at hl 1 rfl) ?_
  refine g_calli I (g_runS (n := 1) (As := [.int (x)]) (rest := []) F I (mt_isSheet l G _ (x)   _) q1247 q1248 q56 q1249 hd_mt_isSheet.2 ⟨Nat.le_of_ble_eq_true rfl, Nat.le_of_ble_eq_true rfl⟩ rfl rfl hl.1 rfl (lv_room (Nat.le_of_ble_eq_true rfl)) dX1_lose_1 ⟨by first | exact Nat.le_refl _ | decide, by first | exact Nat.le_refl _ | decide⟩) (fun r u_ H locs hp I => ?_)
  obtain rfl := hp
  refine z_ne (tgt := 9) F dX1_lose_4 (by decide) (fun c_4 => ?_) (fun c_4 => ?_)
  · obtain ⟨k, hk, rfl⟩ := wi_n (m := 3) (by decide) c_4
    have tk : (nI k).toNatClampNeg = k := nI_clamp (by omega)
    have hOk := hO k (by omega)
    refine lv_aload_n F.x F.b dX1_lose_9 rfl (lv_at hl 0 rfl) ?_
    refine m_geta F I 2 (by decide) q1157 dX1_lose_10 ?_
    refine lv_iload_n F.x F.b dX1_lose_13 rfl (lv_at hl 1 rfl) ?_
    refine m_ld (v := ((S.2 2) (k))) F I 2 (by decide) (show k < 4 by omega) rfl dX1_lose_14 ?_
    refine W.val (y := eN (L 2 k)) (by exact hC.1 k (by omega)) ?_
    refine lv_bipush (v := (-9)) F.x F.b dX1_lose_15 (by decide) ?_
    refine e9_ne (tgt := 24) F (by omega) dX1_lose_17 (by decide) (fun c_17 => ?_) (fun c_17 => ?_)
    · refine lv_iconst (v := nI (1)) F.x F.b dX1_lose_24 (by decide) ?_
      refine lv_istore_n (lv' := [(2, .int (nI (1))), (0, .ref (o)), (1, .int (nI (k)))]) F.x F.b dX1_lose_25 rfl hl (by decide) rfl (fun ls hl => ?_)
      refine lv_aload_n F.x F.b dX1_lose_26 rfl (lv_at hl 1 rfl) ?_
      refine m_geta F I 2 (by decide) q1157 dX1_lose_27 ?_
      refine lv_iload_n F.x F.b dX1_lose_30 rfl (lv_at hl 2 rfl) ?_
      refine lv_bipush (v := (-9)) F.x F.b dX1_lose_31 (by decide) ?_
      refine m_st F I 2 (by decide) (show k < 4 by omega) dX1_lose_33 (fun H locs (I : Iw G A s (mW G o q (S.1, va_up S.2 2 (upd (S.2 2) (k) ((-9))))) H locs) => ?_)
      refine lv_iload_n F.x F.b dX1_lose_34 rfl (lv_at hl 0 rfl) ?_
      exact g_iret (v := 1) (u := (S.1, va_up S.2 2 (upd (S.2 2) (k) ((-9))))) F I (by exact ⟨by rw [aLose, if_pos c_4, tk]; first | (rw [if_pos c_17]; done) | (rw [if_neg c_17]; done), by rw [lLose, if_pos c_4, tk]; exact mSh_lose hC, by exact ⟨rfl, rfl, rfl, rfl, rfl, rfl, rfl, rfl, rfl, rfl, rfl, rfl, rfl, rfl, rfl, rfl, rfl⟩⟩) dX1_lose_35 (by first | exact Nat.le_refl _ | decide) (by first | exact Nat.le_refl _ | decide)
    · refine lv_iconst (v := nI (0)) F.x F.b dX1_lose_20 (by decide) ?_
      refine lv_goto (tgt := 25) F.x F.b dX1_lose_21 (by decide) ?_
      refine lv_istore_n (lv' := [(2, .int (nI (0))), (0, .ref (o)), (1, .int (nI (k)))]) F.x F.b dX1_lose_25 rfl hl (by decide) rfl (fun ls hl => ?_)
      refine lv_aload_n F.x F.b dX1_lose_26 rfl (lv_at hl 1 rfl) ?_
      refine m_geta F I 2 (by decide) q1157 dX1_lose_27 ?_
      refine lv_iload_n F.x F.b dX1_lose_30 rfl (lv_at hl 2 rfl) ?_
      refine lv_bipush (v := (-9)) F.x F.b dX1_lose_31 (by decide) ?_
      refine m_st F I 2 (by decide) (show k < 4 by omega) dX1_lose_33 (fun H locs (I : Iw G A s (mW G o q (S.1, va_up S.2 2 (upd (S.2 2) (k) ((-9))))) H locs) => ?_)
      refine lv_iload_n F.x F.b dX1_lose_34 rfl (lv_at hl 0 rfl) ?_
      exact g_iret (v := 0) (u := (S.1, va_up S.2 2 (upd (S.2 2) (k) ((-9))))) F I (by exact ⟨by rw [aLose, if_pos c_4, tk]; first | (rw [if_pos c_17]; done) | (rw [if_neg c_17]; done), by rw [lLose, if_pos c_4, tk]; exact mSh_lose hC, by exact ⟨rfl, rfl, rfl, rfl, rfl, rfl, rfl, rfl, rfl, rfl, rfl, rfl, rfl, rfl, rfl, rfl, rfl⟩⟩) dX1_lose_35 (by first | exact Nat.le_refl _ | decide) (by first | exact Nat.le_refl _ | decide)
  · refine lv_iconst (v := (-1)) F.x F.b dX1_lose_7 (by decide) ?_
    exact g_iret (u := S) F I (by exact ⟨by simp [aLose, *], by rw [lLose, if_neg (by simp [*])]; exact hC, mKeep.rf⟩) dX1_lose_8 (by first | exact Nat.le_refl _ | decide) (by first | exact Nat.le_refl _ | decide)

theorem hd_mt_put : yX1_put.cls = RX1 ∧ yX1_put.cls ≠ "java/lang/invoke/MethodHandle" ∧ yX1_put.cls ≠ "java/lang/invoke/VarHandle" ∧ (parseMethodDescriptor yX1_put.desc).map (fun d => d.parameters.length) = some 3 := by decide +kernel
set_option maxHeartbeats 4000000 in
theorem mt_put (l : Launch) (G : gG) (o : Nat) (q : Nat → Nat) (S : MS) (x : Int32) (v : Int32) (y : Int32) (L : LD) (C : Nat → Nat → Int32) (hO : SOk L) (hC : mSh S L C) : gMi l yX1_put cX1_put 4 (some .int) ({ frames := 2, cells := 0, slots := 0, locals := 42 } : Room) G [.ref o, .int (x), .int (v), .int (y)] (mW G o q S) (fun S' => mW G o q S') (fun ρ S' => aPut L x v = ρ ∧ S'.1 0 = fPut L x v ∧ mSh S' L (cPut L C x v y) ∧ mKeep (va_up S'.1 0 (S.1 0), va_up S'.2 4 (S.2 4)) S) := by
  refine gMi_of (by decide) (Nat.le_of_ble_eq_true rfl) ?_
  intro p e s m below meth c ls A F I hl
  have hl : lv_has ls 4 [(0, .ref (o)), (1, .int (x)), (2, .int (v)), (3, .int (y))] := hl
  refine lv_aload_n F.x F.b dX1_put_0 rfl (lv_at hl 0 rfl) ?_
  refine lv_iconst (v := nI (0)) F.x F.b dX1_put_1 (by decide) ?_
  refine m_put F I 0 (by decide) q1155 dX1_put_2 (fun H locs (I : Iw G A s (mW G o q (va_up S.1 0 (0), S.2)) H locs) => ?_)
  refine lv_iload_n F.x F.b dX1_put_5 rfl (lv_at hl 1 rfl) ?_
  refine g_calli I (g_runS (n := 1) (As := [.int (x)]) (rest := []) F I (mt_isSheet l G _ (x)   _) q1247 q1248 q56 q1249 hd_mt_isSheet.2 ⟨Nat.le_of_ble_eq_true rfl, Nat.le_of_ble_eq_true rfl⟩ rfl rfl hl.1 rfl (lv_room (Nat.le_of_ble_eq_true rfl)) dX1_put_6 ⟨by first | exact Nat.le_refl _ | decide, by first | exact Nat.le_refl _ | decide⟩) (fun r u_ H locs hp I => ?_)
  obtain rfl := hp
  refine z_ne (tgt := 14) F dX1_put_9 (by decide) (fun c_9 => ?_) (fun c_9 => ?_)
  · obtain ⟨k, hk, rfl⟩ := wi_n (m := 3) (by decide) c_9
    have tk : (nI k).toNatClampNeg = k := nI_clamp (by omega)
    have hOk := hO k (by omega)
    refine lv_aload_n F.x F.b dX1_put_14 rfl (lv_at hl 0 rfl) ?_
    refine m_geta F I 2 (by decide) q1157 dX1_put_15 ?_
    refine lv_iload_n F.x F.b dX1_put_18 rfl (lv_at hl 1 rfl) ?_
    refine m_ld (v := ((S.2 2) (k))) F I 2 (by decide) (show k < 4 by omega) rfl dX1_put_19 ?_
    refine W.val (y := eN (L 2 k)) (by exact hC.1 k (by omega)) ?_
    refine lv_bipush (v := (-9)) F.x F.b dX1_put_20 (by decide) ?_
    refine e9_ne (tgt := 31) F (by omega) dX1_put_22 (by decide) (fun c_22 => ?_) (fun c_22 => ?_)
    · have h3k := hC.2 k (by omega) c_22
      have hO3 := hOk.2 c_22
      refine lv_iload_n F.x F.b dX1_put_31 rfl (lv_at hl 2 rfl) ?_
      refine lv_iconst (v := nI (0)) F.x F.b dX1_put_32 (by decide) ?_
      refine lv_aload_n F.x F.b dX1_put_33 rfl (lv_at hl 0 rfl) ?_
      refine m_geta F I 3 (by decide) q1158 dX1_put_34 ?_
      refine lv_iload_n F.x F.b dX1_put_37 rfl (lv_at hl 1 rfl) ?_
      refine m_ld (v := ((S.2 3) (k))) F I 3 (by decide) (show k < 4 by omega) rfl dX1_put_38 ?_
      refine W.val (y := nI (L 3 k)) (by exact h3k.1) ?_
      refine lv_iconst (v := nI (1)) F.x F.b dX1_put_39 (by decide) ?_
      refine lv_isub (x := (nI (L 3 k))) (y := 1) F.x F.b dX1_put_40 ?_
      refine g_calli I (g_runS (n := 3) (As := [.int (v), .int (nI (0)), .int (((nI (L 3 k)) - 1))]) (rest := []) F I (mt_within l G _ (v) (0) (((nI (L 3 k)) - 1))   _) q1250 q1251 q56 q1252 hd_mt_within.2 ⟨Nat.le_of_ble_eq_true rfl, Nat.le_of_ble_eq_true rfl⟩ rfl rfl hl.1 rfl (lv_room (Nat.le_of_ble_eq_true rfl)) dX1_put_41 ⟨by first | exact Nat.le_refl _ | decide, by first | exact Nat.le_refl _ | decide⟩) (fun r u_ H locs hp I => ?_)
      obtain rfl := hp
      refine z_ne (tgt := 53) F dX1_put_44 (by decide) (fun c_44 => ?_) (fun c_44 => ?_)
      · obtain ⟨j, hj, rfl⟩ := wi_m1 (n := L 3 k) (by omega) c_44
        have tj : (nI j).toNatClampNeg = j := nI_clamp (by omega)
        refine lv_aload_n F.x F.b dX1_put_53 rfl (lv_at hl 0 rfl) ?_
        refine m_geta F I 4 (by decide) q1159 dX1_put_54 ?_
        refine lv_bipush (v := nI (60)) F.x F.b dX1_put_57 (by decide) ?_
        refine lv_iload_n F.x F.b dX1_put_59 rfl (lv_at hl 1 rfl) ?_
        refine n_imul F dX1_put_60 ?_
        refine lv_iload_n F.x F.b dX1_put_61 rfl (lv_at hl 2 rfl) ?_
        refine n_iadd F dX1_put_62 ?_
        refine lv_aload_n F.x F.b dX1_put_63 rfl (lv_at hl 0 rfl) ?_
        refine m_geta F I 2 (by decide) q1157 dX1_put_64 ?_
        refine lv_iload_n F.x F.b dX1_put_67 rfl (lv_at hl 1 rfl) ?_
        refine m_ld (v := ((S.2 2) (k))) F I 2 (by decide) (show k < 4 by omega) rfl dX1_put_68 ?_
        refine W.val (y := nI (L 2 k)) (by exact (hC.1 k (by omega)).trans (eN_i c_22)) ?_
        refine n_if_ne (tgt := 77) F (by omega) dX1_put_69 (by decide) (fun c_69 => ?_) (fun c_69 => ?_)
        · refine lv_aload_n F.x F.b dX1_put_77 rfl (lv_at hl 0 rfl) ?_
          refine m_geta F I 2 (by decide) q1157 dX1_put_78 ?_
          refine lv_iload_n F.x F.b dX1_put_81 rfl (lv_at hl 1 rfl) ?_
          refine m_ld (v := ((S.2 2) (k))) F I 2 (by decide) (show k < 4 by omega) rfl dX1_put_82 ?_
          refine W.val (y := nI (L 2 k)) (by exact (hC.1 k (by omega)).trans (eN_i c_22)) ?_
          refine lv_iconst (v := nI (1)) F.x F.b dX1_put_83 (by decide) ?_
          refine n_icmp_ne (tgt := 92) F (by omega) (by omega) dX1_put_84 (by decide) (fun c_84 => ?_) (fun c_84 => ?_)
          · refine lv_iload_n F.x F.b dX1_put_92 rfl (lv_at hl 3 rfl) ?_
            refine m_st F I 4 (by decide) (show ((60 * k) + j) < 240 by omega) dX1_put_93 (fun H locs (I : Iw G A s (mW G o q (va_up S.1 0 (0), va_up S.2 4 (upd (S.2 4) (((60 * k) + j)) (y)))) H locs) => ?_)
            refine lv_iconst (v := nI (1)) F.x F.b dX1_put_94 (by decide) ?_
            exact g_iret (v := 1) (u := (va_up S.1 0 (0), va_up S.2 4 (upd (S.2 4) (((60 * k) + j)) (y)))) F I (by exact ⟨by simp [aPut, *], by simp [fPut, *, va_up], by rw [cPut, if_pos c_9, tk, if_neg c_22, if_pos c_44, tj, show nrw (L 2 k) y = y by simp [nrw, c_69, c_84]]; exact mSh_put hC hO (by omega) (by omega) c_22, by exact ⟨rfl, rfl, rfl, rfl, rfl, rfl, rfl, rfl, rfl, rfl, rfl, rfl, rfl, rfl, rfl, rfl, rfl⟩⟩) dX1_put_95 (by first | exact Nat.le_refl _ | decide) (by first | exact Nat.le_refl _ | decide)
          · refine lv_iload_n F.x F.b dX1_put_87 rfl (lv_at hl 3 rfl) ?_
            refine lv_i2s (v := (y).toInt16.toInt32) F.x F.b dX1_put_88 rfl ?_
            refine lv_goto (tgt := 93) F.x F.b dX1_put_89 (by decide) ?_
            refine m_st F I 4 (by decide) (show ((60 * k) + j) < 240 by omega) dX1_put_93 (fun H locs (I : Iw G A s (mW G o q (va_up S.1 0 (0), va_up S.2 4 (upd (S.2 4) (((60 * k) + j)) ((y).toInt16.toInt32)))) H locs) => ?_)
            refine lv_iconst (v := nI (1)) F.x F.b dX1_put_94 (by decide) ?_
            exact g_iret (v := 1) (u := (va_up S.1 0 (0), va_up S.2 4 (upd (S.2 4) (((60 * k) + j)) ((y).toInt16.toInt32)))) F I (by exact ⟨by simp [aPut, *], by simp [fPut, *, va_up], by rw [cPut, if_pos c_9, tk, if_neg c_22, if_pos c_44, tj, show nrw (L 2 k) y = y.toInt16.toInt32 by simp [nrw, c_69, c_84]]; exact mSh_put hC hO (by omega) (by omega) c_22, by exact ⟨rfl, rfl, rfl, rfl, rfl, rfl, rfl, rfl, rfl, rfl, rfl, rfl, rfl, rfl, rfl, rfl, rfl⟩⟩) dX1_put_95 (by first | exact Nat.le_refl _ | decide) (by first | exact Nat.le_refl _ | decide)
        · refine lv_iload_n F.x F.b dX1_put_72 rfl (lv_at hl 3 rfl) ?_
          refine lv_i2b (v := (y).toInt8.toInt32) F.x F.b dX1_put_73 rfl ?_
          refine lv_goto (tgt := 93) F.x F.b dX1_put_74 (by decide) ?_
          refine m_st F I 4 (by decide) (show ((60 * k) + j) < 240 by omega) dX1_put_93 (fun H locs (I : Iw G A s (mW G o q (va_up S.1 0 (0), va_up S.2 4 (upd (S.2 4) (((60 * k) + j)) ((y).toInt8.toInt32)))) H locs) => ?_)
          refine lv_iconst (v := nI (1)) F.x F.b dX1_put_94 (by decide) ?_
          exact g_iret (v := 1) (u := (va_up S.1 0 (0), va_up S.2 4 (upd (S.2 4) (((60 * k) + j)) ((y).toInt8.toInt32)))) F I (by exact ⟨by simp [aPut, *], by simp [fPut, *, va_up], by rw [cPut, if_pos c_9, tk, if_neg c_22, if_pos c_44, tj, show nrw (L 2 k) y = y.toInt8.toInt32 by simp [nrw, c_69]]; exact mSh_put hC hO (by omega) (by omega) c_22, by exact ⟨rfl, rfl, rfl, rfl, rfl, rfl, rfl, rfl, rfl, rfl, rfl, rfl, rfl, rfl, rfl, rfl, rfl⟩⟩) dX1_put_95 (by first | exact Nat.le_refl _ | decide) (by first | exact Nat.le_refl _ | decide)
      · refine lv_aload_n F.x F.b dX1_put_47 rfl (lv_at hl 0 rfl) ?_
        refine lv_iconst (v := nI (3)) F.x F.b dX1_put_48 (by decide) ?_
        refine g_calli I (g_runV (n := 1) (ci := 0) (q0 := 0) (As := [.int (nI (3))]) (rest := []) F I (mt_fails l G o q ((va_up S.1 0 (0), S.2)) (3)   _) q1260 q1262 qs27 q56 q1263 hd_mt_fails ⟨Nat.le_of_ble_eq_true rfl, Nat.le_of_ble_eq_true rfl⟩ rfl rfl rfl rfl hl.1 rfl (lv_room (Nat.le_of_ble_eq_true rfl)) dX1_put_49 ⟨by first | exact Nat.le_refl _ | decide, by first | exact Nat.le_refl _ | decide⟩) (fun r u_ H locs hp I => ?_)
        obtain ⟨rfl, rfl⟩ := hp
        exact g_iret (u := (va_up (va_up S.1 0 (0)) 0 (3), S.2)) F I (by exact ⟨by simp [aPut, *], by simp [fPut, *, va_up], by simp only [cPut, *]; exact hC, by exact ⟨rfl, rfl, rfl, rfl, rfl, rfl, rfl, rfl, rfl, rfl, rfl, rfl, rfl, rfl, rfl, rfl, rfl⟩⟩) dX1_put_52 (by first | exact Nat.le_refl _ | decide) (by first | exact Nat.le_refl _ | decide)
    · refine lv_aload_n F.x F.b dX1_put_25 rfl (lv_at hl 0 rfl) ?_
      refine lv_iconst (v := nI (1)) F.x F.b dX1_put_26 (by decide) ?_
      refine g_calli I (g_runV (n := 1) (ci := 0) (q0 := 0) (As := [.int (nI (1))]) (rest := []) F I (mt_fails l G o q ((va_up S.1 0 (0), S.2)) (1)   _) q1260 q1262 qs27 q56 q1263 hd_mt_fails ⟨Nat.le_of_ble_eq_true rfl, Nat.le_of_ble_eq_true rfl⟩ rfl rfl rfl rfl hl.1 rfl (lv_room (Nat.le_of_ble_eq_true rfl)) dX1_put_27 ⟨by first | exact Nat.le_refl _ | decide, by first | exact Nat.le_refl _ | decide⟩) (fun r u_ H locs hp I => ?_)
      obtain ⟨rfl, rfl⟩ := hp
      exact g_iret (u := (va_up (va_up S.1 0 (0)) 0 (1), S.2)) F I (by exact ⟨by simp [aPut, *], by simp [fPut, *, va_up], by simp only [cPut, *]; exact hC, by exact ⟨rfl, rfl, rfl, rfl, rfl, rfl, rfl, rfl, rfl, rfl, rfl, rfl, rfl, rfl, rfl, rfl, rfl⟩⟩) dX1_put_30 (by first | exact Nat.le_refl _ | decide) (by first | exact Nat.le_refl _ | decide)
  · refine lv_iconst (v := (-1)) F.x F.b dX1_put_12 (by decide) ?_
    exact g_iret (u := (va_up S.1 0 (0), S.2)) F I (by exact ⟨by simp [aPut, *], by simp [fPut, *, va_up], by simp only [cPut, *]; exact hC, by exact ⟨rfl, rfl, rfl, rfl, rfl, rfl, rfl, rfl, rfl, rfl, rfl, rfl, rfl, rfl, rfl, rfl, rfl⟩⟩) dX1_put_13 (by first | exact Nat.le_refl _ | decide) (by first | exact Nat.le_refl _ | decide)

theorem hd_mt_cell : yX1_cell.cls = RX1 ∧ yX1_cell.cls ≠ "java/lang/invoke/MethodHandle" ∧ yX1_cell.cls ≠ "java/lang/invoke/VarHandle" ∧ (parseMethodDescriptor yX1_cell.desc).map (fun d => d.parameters.length) = some 3 := by decide +kernel
set_option maxHeartbeats 4000000 in
theorem mt_cell (l : Launch) (G : gG) (o : Nat) (q : Nat → Nat) (S : MS) (x : Int32) (v : Int32) (y : Int32) (L : LD) (C : Nat → Nat → Int32) (hO : SOk L) (hC : mSh S L C) : gMl l yX1_cell cX1_cell 4 (some .long) ({ frames := 2, cells := 0, slots := 0, locals := 42 } : Room) G [.ref o, .int (x), .int (v), .int (y)] (mW G o q S) (fun S' => mW G o q S') (fun ρ S' => aCell L C x v y = ρ ∧ S'.1 0 = fCell L x v y ∧ mKeep (va_up S'.1 0 (S.1 0), S'.2) S) := by
  refine gMl_of (by decide) (Nat.le_of_ble_eq_true rfl) ?_
  intro p e s m below meth c ls A F I hl
  have hl : lv_has ls 4 [(0, .ref (o)), (1, .int (x)), (2, .int (v)), (3, .int (y))] := hl
  refine lv_aload_n F.x F.b dX1_cell_0 rfl (lv_at hl 0 rfl) ?_
  refine lv_iconst (v := nI (0)) F.x F.b dX1_cell_1 (by decide) ?_
  refine m_put F I 0 (by decide) q1155 dX1_cell_2 (fun H locs (I : Iw G A s (mW G o q (va_up S.1 0 (0), S.2)) H locs) => ?_)
  refine lv_iload_n F.x F.b dX1_cell_5 rfl (lv_at hl 1 rfl) ?_
  refine g_calli I (g_runS (n := 1) (As := [.int (x)]) (rest := []) F I (mt_isSheet l G _ (x)   _) q1247 q1248 q56 q1249 hd_mt_isSheet.2 ⟨Nat.le_of_ble_eq_true rfl, Nat.le_of_ble_eq_true rfl⟩ rfl rfl hl.1 rfl (lv_room (Nat.le_of_ble_eq_true rfl)) dX1_cell_6 ⟨by first | exact Nat.le_refl _ | decide, by first | exact Nat.le_refl _ | decide⟩) (fun r u_ H locs hp I => ?_)
  obtain rfl := hp
  refine z_eq (tgt := 19) F dX1_cell_9 (by decide) (fun c_9 => ?_) (fun c_9 => ?_)
  · refine lv_ldc2 (v := -9223372036854775808) F.x F.b F.o (F.t _ q1425) dX1_cell_19 ?_
    exact g_lret (u := (va_up S.1 0 (0), S.2)) F I (by exact ⟨by simp [aCell, *], by simp [fCell, *, va_up], by exact ⟨rfl, rfl, rfl, rfl, rfl, rfl, rfl, rfl, rfl, rfl, rfl, rfl, rfl, rfl, rfl, rfl, rfl⟩⟩) dX1_cell_22 (by first | exact Nat.le_refl _ | decide) (by first | exact Nat.le_refl _ | decide)
  · obtain ⟨k, hk, rfl⟩ := wi_n (m := 3) (by decide) c_9
    have tk : (nI k).toNatClampNeg = k := nI_clamp (by omega)
    refine lv_iload_n F.x F.b dX1_cell_12 rfl (lv_at hl 3 rfl) ?_
    refine g_calli I (g_runS (n := 1) (As := [.int (y)]) (rest := []) F I (mt_isSort l G _ (y)   _) q1253 q1254 q56 q1255 hd_mt_isSort.2 ⟨Nat.le_of_ble_eq_true rfl, Nat.le_of_ble_eq_true rfl⟩ rfl rfl hl.1 rfl (lv_room (Nat.le_of_ble_eq_true rfl)) dX1_cell_13 ⟨by first | exact Nat.le_refl _ | decide, by first | exact Nat.le_refl _ | decide⟩) (fun r u_ H locs hp I => ?_)
    obtain rfl := hp
    refine z_ne (tgt := 23) F dX1_cell_16 (by decide) (fun c_16 => ?_) (fun c_16 => ?_)
    · have hOk := hO k (by omega)
      refine lv_aload_n F.x F.b dX1_cell_23 rfl (lv_at hl 0 rfl) ?_
      refine m_geta F I 2 (by decide) q1157 dX1_cell_24 ?_
      refine lv_iload_n F.x F.b dX1_cell_27 rfl (lv_at hl 1 rfl) ?_
      refine m_ld (v := ((S.2 2) (k))) F I 2 (by decide) (show k < 4 by omega) rfl dX1_cell_28 ?_
      refine W.val (y := eN (L 2 k)) (by exact hC.1 k (by omega)) ?_
      refine lv_bipush (v := (-9)) F.x F.b dX1_cell_29 (by decide) ?_
      refine e9_eq (tgt := 50) F (by omega) dX1_cell_31 (by decide) (fun c_31 => ?_) (fun c_31 => ?_)
      · refine lv_aload_n F.x F.b dX1_cell_50 rfl (lv_at hl 0 rfl) ?_
        refine m_geta F I 2 (by decide) q1157 dX1_cell_51 ?_
        refine lv_iload_n F.x F.b dX1_cell_54 rfl (lv_at hl 1 rfl) ?_
        refine m_ld (v := ((S.2 2) (k))) F I 2 (by decide) (show k < 4 by omega) rfl dX1_cell_55 ?_
        refine W.val (y := eN (L 2 k)) (by exact hC.1 k (by omega)) ?_
        refine lv_bipush (v := (-9)) F.x F.b dX1_cell_56 (by decide) ?_
        refine e9_ne (tgt := 67) F (by omega) dX1_cell_58 (by decide) (fun c_58 => absurd c_58 (by exact fun z => z c_31)) (fun c_58 => ?_)
        refine lv_aload_n F.x F.b dX1_cell_61 rfl (lv_at hl 0 rfl) ?_
        refine lv_iconst (v := nI (1)) F.x F.b dX1_cell_62 (by decide) ?_
        refine g_calll I (g_runV (n := 1) (ci := 0) (q0 := 0) (As := [.int (nI (1))]) (rest := []) F I (mt_lost l G o q ((va_up S.1 0 (0), S.2)) (1)   _) q1445 q1447 qs48 q56 q1448 hd_mt_lost ⟨Nat.le_of_ble_eq_true rfl, Nat.le_of_ble_eq_true rfl⟩ rfl rfl rfl rfl hl.1 rfl (lv_room (Nat.le_of_ble_eq_true rfl)) dX1_cell_63 ⟨by first | exact Nat.le_refl _ | decide, by first | exact Nat.le_refl _ | decide⟩) (fun r u_ H locs hp I => ?_)
        obtain ⟨rfl, rfl⟩ := hp
        exact g_lret (u := (va_up (va_up S.1 0 (0)) 0 (1), S.2)) F I (by exact ⟨by simp [aCell, *], by simp [fCell, *, va_up], by exact ⟨rfl, rfl, rfl, rfl, rfl, rfl, rfl, rfl, rfl, rfl, rfl, rfl, rfl, rfl, rfl, rfl, rfl⟩⟩) dX1_cell_66 (by first | exact Nat.le_refl _ | decide) (by first | exact Nat.le_refl _ | decide)
      · refine lv_aload_n F.x F.b dX1_cell_34 rfl (lv_at hl 0 rfl) ?_
        refine m_geta F I 2 (by decide) q1157 dX1_cell_35 ?_
        refine lv_iload_n F.x F.b dX1_cell_38 rfl (lv_at hl 1 rfl) ?_
        refine m_ld (v := ((S.2 2) (k))) F I 2 (by decide) (show k < 4 by omega) rfl dX1_cell_39 ?_
        refine W.val (y := nI (L 2 k)) (by exact (hC.1 k (by omega)).trans (eN_i c_31)) ?_
        refine lv_iload_n F.x F.b dX1_cell_40 rfl (lv_at hl 3 rfl) ?_
        refine lv_icmp_eq (x := (nI (L 2 k))) (y := y) (tgt := 50) F.x F.b dX1_cell_41 (by decide) (fun c_41 => ?_) (fun c_41 => ?_)
        · refine lv_aload_n F.x F.b dX1_cell_50 rfl (lv_at hl 0 rfl) ?_
          refine m_geta F I 2 (by decide) q1157 dX1_cell_51 ?_
          refine lv_iload_n F.x F.b dX1_cell_54 rfl (lv_at hl 1 rfl) ?_
          refine m_ld (v := ((S.2 2) (k))) F I 2 (by decide) (show k < 4 by omega) rfl dX1_cell_55 ?_
          refine W.val (y := eN (L 2 k)) (by exact hC.1 k (by omega)) ?_
          refine lv_bipush (v := (-9)) F.x F.b dX1_cell_56 (by decide) ?_
          refine e9_ne (tgt := 67) F (by omega) dX1_cell_58 (by decide) (fun c_58 => ?_) (fun c_58 => absurd c_58 (by exact c_31))
          have h3k := hC.2 k (by omega) c_58
          have hO3 := hOk.2 c_58
          refine lv_iload_n F.x F.b dX1_cell_67 rfl (lv_at hl 2 rfl) ?_
          refine lv_iconst (v := nI (0)) F.x F.b dX1_cell_68 (by decide) ?_
          refine lv_aload_n F.x F.b dX1_cell_69 rfl (lv_at hl 0 rfl) ?_
          refine m_geta F I 3 (by decide) q1158 dX1_cell_70 ?_
          refine lv_iload_n F.x F.b dX1_cell_73 rfl (lv_at hl 1 rfl) ?_
          refine m_ld (v := ((S.2 3) (k))) F I 3 (by decide) (show k < 4 by omega) rfl dX1_cell_74 ?_
          refine W.val (y := nI (L 3 k)) (by exact h3k.1) ?_
          refine lv_iconst (v := nI (1)) F.x F.b dX1_cell_75 (by decide) ?_
          refine lv_isub (x := (nI (L 3 k))) (y := 1) F.x F.b dX1_cell_76 ?_
          refine g_calli I (g_runS (n := 3) (As := [.int (v), .int (nI (0)), .int (((nI (L 3 k)) - 1))]) (rest := []) F I (mt_within l G _ (v) (0) (((nI (L 3 k)) - 1))   _) q1250 q1251 q56 q1252 hd_mt_within.2 ⟨Nat.le_of_ble_eq_true rfl, Nat.le_of_ble_eq_true rfl⟩ rfl rfl hl.1 rfl (lv_room (Nat.le_of_ble_eq_true rfl)) dX1_cell_77 ⟨by first | exact Nat.le_refl _ | decide, by first | exact Nat.le_refl _ | decide⟩) (fun r u_ H locs hp I => ?_)
          obtain rfl := hp
          refine z_ne (tgt := 89) F dX1_cell_80 (by decide) (fun c_80 => ?_) (fun c_80 => ?_)
          · obtain ⟨j, hj, rfl⟩ := wi_m1 (n := L 3 k) (by omega) c_80
            have tj : (nI j).toNatClampNeg = j := nI_clamp (by omega)
            refine lv_aload_n F.x F.b dX1_cell_89 rfl (lv_at hl 0 rfl) ?_
            refine m_geta F I 4 (by decide) q1159 dX1_cell_90 ?_
            refine lv_bipush (v := nI (60)) F.x F.b dX1_cell_93 (by decide) ?_
            refine lv_iload_n F.x F.b dX1_cell_95 rfl (lv_at hl 1 rfl) ?_
            refine n_imul F dX1_cell_96 ?_
            refine lv_iload_n F.x F.b dX1_cell_97 rfl (lv_at hl 2 rfl) ?_
            refine n_iadd F dX1_cell_98 ?_
            refine m_ld (v := ((S.2 4) (((60 * k) + j)))) F I 4 (by decide) (show ((60 * k) + j) < 240 by omega) rfl dX1_cell_99 ?_
            refine W.val (y := C k j) (by exact h3k.2 j hj) ?_
            refine lv_i2l (v := (C k j).toInt64) F.x F.b dX1_cell_100 rfl ?_
            exact g_lret (u := (va_up S.1 0 (0), S.2)) F I (by exact ⟨by simp [aCell, *], by simp [fCell, *, va_up], by exact ⟨rfl, rfl, rfl, rfl, rfl, rfl, rfl, rfl, rfl, rfl, rfl, rfl, rfl, rfl, rfl, rfl, rfl⟩⟩) dX1_cell_101 (by first | exact Nat.le_refl _ | decide) (by first | exact Nat.le_refl _ | decide)
          · refine lv_aload_n F.x F.b dX1_cell_83 rfl (lv_at hl 0 rfl) ?_
            refine lv_iconst (v := nI (3)) F.x F.b dX1_cell_84 (by decide) ?_
            refine g_calll I (g_runV (n := 1) (ci := 0) (q0 := 0) (As := [.int (nI (3))]) (rest := []) F I (mt_lost l G o q ((va_up S.1 0 (0), S.2)) (3)   _) q1445 q1447 qs48 q56 q1448 hd_mt_lost ⟨Nat.le_of_ble_eq_true rfl, Nat.le_of_ble_eq_true rfl⟩ rfl rfl rfl rfl hl.1 rfl (lv_room (Nat.le_of_ble_eq_true rfl)) dX1_cell_85 ⟨by first | exact Nat.le_refl _ | decide, by first | exact Nat.le_refl _ | decide⟩) (fun r u_ H locs hp I => ?_)
            obtain ⟨rfl, rfl⟩ := hp
            exact g_lret (u := (va_up (va_up S.1 0 (0)) 0 (3), S.2)) F I (by exact ⟨by simp [aCell, *], by simp [fCell, *, va_up], by exact ⟨rfl, rfl, rfl, rfl, rfl, rfl, rfl, rfl, rfl, rfl, rfl, rfl, rfl, rfl, rfl, rfl, rfl⟩⟩) dX1_cell_88 (by first | exact Nat.le_refl _ | decide) (by first | exact Nat.le_refl _ | decide)
        · refine lv_aload_n F.x F.b dX1_cell_44 rfl (lv_at hl 0 rfl) ?_
          refine lv_iconst (v := nI (2)) F.x F.b dX1_cell_45 (by decide) ?_
          refine g_calll I (g_runV (n := 1) (ci := 0) (q0 := 0) (As := [.int (nI (2))]) (rest := []) F I (mt_lost l G o q ((va_up S.1 0 (0), S.2)) (2)   _) q1445 q1447 qs48 q56 q1448 hd_mt_lost ⟨Nat.le_of_ble_eq_true rfl, Nat.le_of_ble_eq_true rfl⟩ rfl rfl rfl rfl hl.1 rfl (lv_room (Nat.le_of_ble_eq_true rfl)) dX1_cell_46 ⟨by first | exact Nat.le_refl _ | decide, by first | exact Nat.le_refl _ | decide⟩) (fun r u_ H locs hp I => ?_)
          obtain ⟨rfl, rfl⟩ := hp
          exact g_lret (u := (va_up (va_up S.1 0 (0)) 0 (2), S.2)) F I (by exact ⟨by simp [aCell, *], by simp [fCell, *, va_up], by exact ⟨rfl, rfl, rfl, rfl, rfl, rfl, rfl, rfl, rfl, rfl, rfl, rfl, rfl, rfl, rfl, rfl, rfl⟩⟩) dX1_cell_49 (by first | exact Nat.le_refl _ | decide) (by first | exact Nat.le_refl _ | decide)
    · refine lv_ldc2 (v := -9223372036854775808) F.x F.b F.o (F.t _ q1425) dX1_cell_19 ?_
      exact g_lret (u := (va_up S.1 0 (0), S.2)) F I (by exact ⟨by simp [aCell, *], by simp [fCell, *, va_up], by exact ⟨rfl, rfl, rfl, rfl, rfl, rfl, rfl, rfl, rfl, rfl, rfl, rfl, rfl, rfl, rfl, rfl, rfl⟩⟩) dX1_cell_22 (by first | exact Nat.le_refl _ | decide) (by first | exact Nat.le_refl _ | decide)

def agn (L : LD) (k : Nat) (s i n : Int32) : Int32 := if L 2 k = 99 then 1 else if nI (L 2 k) = s then (if n < 0 then 4 else if i < 0 ∨ (nI (L 3 k) < i ∨ ¬ n ≤ nI (L 3 k) - i) then 3 else 0) else 2
theorem hd_mt_against : yX1_against.cls = RX1 ∧ yX1_against.cls ≠ "java/lang/invoke/MethodHandle" ∧ yX1_against.cls ≠ "java/lang/invoke/VarHandle" ∧ (parseMethodDescriptor yX1_against.desc).map (fun d => d.parameters.length) = some 4 := by decide +kernel
set_option maxHeartbeats 4000000 in
theorem mt_against (l : Launch) (G : gG) (o : Nat) (q : Nat → Nat) (S : MS) (k : Nat) (sr : Int32) (i : Int32) (n : Int32) (L : LD) (C : Nat → Nat → Int32) (hO : SOk L) (hC : mSh S L C) (hk : k < 4) : gMi l yX1_against cX1_against 5 (some .int) ({ frames := 0, cells := 0, slots := 0, locals := 0 } : Room) G [.ref o, .int (nI (k)), .int (sr), .int (i), .int (n)] (mW G o q S) (fun S' => mW G o q S') (fun ρ S' => agn L k sr i n = ρ ∧ S = S') := by
  refine gMi_of (by decide) (Nat.le_of_ble_eq_true rfl) ?_
  intro p e s m below meth c ls A F I hl
  have hl : lv_has ls 5 [(0, .ref (o)), (1, .int (nI (k))), (2, .int (sr)), (3, .int (i)), (4, .int (n))] := hl
  have hOk := hO k (by omega)
  refine lv_aload_n F.x F.b dX1_against_0 rfl (lv_at hl 0 rfl) ?_
  refine m_geta F I 2 (by decide) q1157 dX1_against_1 ?_
  refine lv_iload_n F.x F.b dX1_against_4 rfl (lv_at hl 1 rfl) ?_
  refine m_ld (v := ((S.2 2) (k))) F I 2 (by decide) (show k < 4 by omega) rfl dX1_against_5 ?_
  refine W.val (y := eN (L 2 k)) (by exact hC.1 k (by omega)) ?_
  refine lv_bipush (v := (-9)) F.x F.b dX1_against_6 (by decide) ?_
  refine e9_eq (tgt := 23) F (by omega) dX1_against_8 (by decide) (fun c_8 => ?_) (fun c_8 => ?_)
  · refine lv_aload_n F.x F.b dX1_against_23 rfl (lv_at hl 0 rfl) ?_
    refine m_geta F I 2 (by decide) q1157 dX1_against_24 ?_
    refine lv_iload_n F.x F.b dX1_against_27 rfl (lv_at hl 1 rfl) ?_
    refine m_ld (v := ((S.2 2) (k))) F I 2 (by decide) (show k < 4 by omega) rfl dX1_against_28 ?_
    refine W.val (y := eN (L 2 k)) (by exact hC.1 k (by omega)) ?_
    refine lv_bipush (v := (-9)) F.x F.b dX1_against_29 (by decide) ?_
    refine e9_ne (tgt := 36) F (by omega) dX1_against_31 (by decide) (fun c_31 => absurd c_31 (by exact fun z => z c_8)) (fun c_31 => ?_)
    refine lv_iconst (v := nI (1)) F.x F.b dX1_against_34 (by decide) ?_
    exact g_iret (v := 1) (u := S) F I (by exact ⟨by simp [agn, *], rfl⟩) dX1_against_35 (by first | exact Nat.le_refl _ | decide) (by first | exact Nat.le_refl _ | decide)
  · refine lv_aload_n F.x F.b dX1_against_11 rfl (lv_at hl 0 rfl) ?_
    refine m_geta F I 2 (by decide) q1157 dX1_against_12 ?_
    refine lv_iload_n F.x F.b dX1_against_15 rfl (lv_at hl 1 rfl) ?_
    refine m_ld (v := ((S.2 2) (k))) F I 2 (by decide) (show k < 4 by omega) rfl dX1_against_16 ?_
    refine W.val (y := nI (L 2 k)) (by exact (hC.1 k (by omega)).trans (eN_i c_8)) ?_
    refine lv_iload_n F.x F.b dX1_against_17 rfl (lv_at hl 2 rfl) ?_
    refine lv_icmp_eq (x := (nI (L 2 k))) (y := sr) (tgt := 23) F.x F.b dX1_against_18 (by decide) (fun c_18 => ?_) (fun c_18 => ?_)
    · refine lv_aload_n F.x F.b dX1_against_23 rfl (lv_at hl 0 rfl) ?_
      refine m_geta F I 2 (by decide) q1157 dX1_against_24 ?_
      refine lv_iload_n F.x F.b dX1_against_27 rfl (lv_at hl 1 rfl) ?_
      refine m_ld (v := ((S.2 2) (k))) F I 2 (by decide) (show k < 4 by omega) rfl dX1_against_28 ?_
      refine W.val (y := eN (L 2 k)) (by exact hC.1 k (by omega)) ?_
      refine lv_bipush (v := (-9)) F.x F.b dX1_against_29 (by decide) ?_
      refine e9_ne (tgt := 36) F (by omega) dX1_against_31 (by decide) (fun c_31 => ?_) (fun c_31 => absurd c_31 (by exact c_8))
      have h3k := hC.2 k (by omega) c_31
      have hO3 := hOk.2 c_31
      refine lv_iload F.x F.b dX1_against_36 (lv_at hl 4 rfl) ?_
      refine lv_if_ge (x := n) (tgt := 43) F.x F.b dX1_against_38 (by decide) (fun c_38 => ?_) (fun c_38 => ?_)
      · refine lv_iload_n F.x F.b dX1_against_43 rfl (lv_at hl 3 rfl) ?_
        refine lv_if_lt (x := i) (tgt := 70) F.x F.b dX1_against_44 (by decide) (fun c_44 => ?_) (fun c_44 => ?_)
        · refine lv_iconst (v := nI (3)) F.x F.b dX1_against_70 (by decide) ?_
          refine lv_goto (tgt := 75) F.x F.b dX1_against_71 (by decide) ?_
          exact g_iret (v := 3) (u := S) F I (by exact ⟨by simp [agn, *], rfl⟩) dX1_against_75 (by first | exact Nat.le_refl _ | decide) (by first | exact Nat.le_refl _ | decide)
        · refine lv_iload_n F.x F.b dX1_against_47 rfl (lv_at hl 3 rfl) ?_
          refine lv_aload_n F.x F.b dX1_against_48 rfl (lv_at hl 0 rfl) ?_
          refine m_geta F I 3 (by decide) q1158 dX1_against_49 ?_
          refine lv_iload_n F.x F.b dX1_against_52 rfl (lv_at hl 1 rfl) ?_
          refine m_ld (v := ((S.2 3) (k))) F I 3 (by decide) (show k < 4 by omega) rfl dX1_against_53 ?_
          refine W.val (y := nI (L 3 k)) (by exact h3k.1) ?_
          refine lv_icmp_gt (x := i) (y := (nI (L 3 k))) (tgt := 70) F.x F.b dX1_against_54 (by decide) (fun c_54 => ?_) (fun c_54 => ?_)
          · refine lv_iconst (v := nI (3)) F.x F.b dX1_against_70 (by decide) ?_
            refine lv_goto (tgt := 75) F.x F.b dX1_against_71 (by decide) ?_
            exact g_iret (v := 3) (u := S) F I (by exact ⟨by simp [agn, *], rfl⟩) dX1_against_75 (by first | exact Nat.le_refl _ | decide) (by first | exact Nat.le_refl _ | decide)
          · refine lv_iload F.x F.b dX1_against_57 (lv_at hl 4 rfl) ?_
            refine lv_aload_n F.x F.b dX1_against_59 rfl (lv_at hl 0 rfl) ?_
            refine m_geta F I 3 (by decide) q1158 dX1_against_60 ?_
            refine lv_iload_n F.x F.b dX1_against_63 rfl (lv_at hl 1 rfl) ?_
            refine m_ld (v := ((S.2 3) (k))) F I 3 (by decide) (show k < 4 by omega) rfl dX1_against_64 ?_
            refine W.val (y := nI (L 3 k)) (by exact h3k.1) ?_
            refine lv_iload_n F.x F.b dX1_against_65 rfl (lv_at hl 3 rfl) ?_
            refine lv_isub (x := (nI (L 3 k))) (y := i) F.x F.b dX1_against_66 ?_
            refine lv_icmp_le (x := n) (y := ((nI (L 3 k)) - i)) (tgt := 74) F.x F.b dX1_against_67 (by decide) (fun c_67 => ?_) (fun c_67 => ?_)
            · refine lv_iconst (v := nI (0)) F.x F.b dX1_against_74 (by decide) ?_
              exact g_iret (v := 0) (u := S) F I (by exact ⟨by simp [agn, *], rfl⟩) dX1_against_75 (by first | exact Nat.le_refl _ | decide) (by first | exact Nat.le_refl _ | decide)
            · refine lv_iconst (v := nI (3)) F.x F.b dX1_against_70 (by decide) ?_
              refine lv_goto (tgt := 75) F.x F.b dX1_against_71 (by decide) ?_
              exact g_iret (v := 3) (u := S) F I (by exact ⟨by simp [agn, *], rfl⟩) dX1_against_75 (by first | exact Nat.le_refl _ | decide) (by first | exact Nat.le_refl _ | decide)
      · refine lv_iconst (v := nI (4)) F.x F.b dX1_against_41 (by decide) ?_
        exact g_iret (v := 4) (u := S) F I (by exact ⟨by simp [agn, *], rfl⟩) dX1_against_42 (by first | exact Nat.le_refl _ | decide) (by first | exact Nat.le_refl _ | decide)
    · refine lv_iconst (v := nI (2)) F.x F.b dX1_against_21 (by decide) ?_
      exact g_iret (v := 2) (u := S) F I (by exact ⟨by simp [agn, *], rfl⟩) dX1_against_22 (by first | exact Nat.le_refl _ | decide) (by first | exact Nat.le_refl _ | decide)
