/-! PLAIN LAW, 2: what is asked, over plain numbers -/
set_option maxRecDepth 100000
theorem sw_n (x : Int32) (n : Nat) (hn : n < 2 ^ 31) : (∃ j, j ≤ n ∧ x = nI j) ∨ (x.toInt < 0 ∨ (n : Int) < x.toInt) := by
  by_cases h0 : x < 0
  · exact Or.inr (Or.inl (by simpa using Int32.lt_iff_toInt_lt.mp h0))
  · obtain ⟨j, hj, rfl⟩ := nI_of h0
    by_cases h1 : j ≤ n
    · exact Or.inl ⟨j, h1, rfl⟩
    · exact Or.inr (Or.inr (by rw [nI_toInt hj]; omega))
theorem wi_n {x : Int32} {m : Nat} (hm : m < 2 ^ 31) (h : mWi x 0 (nI m) = true) : ∃ j, j ≤ m ∧ x = nI j := by
  unfold mWi at h
  rw [Bool.and_eq_true, Bool.not_eq_true', Bool.not_eq_true', decide_eq_false_iff_not, decide_eq_false_iff_not] at h
  obtain ⟨j, hj, rfl⟩ := nI_of h.1
  exact ⟨j, by have := mt (nI_ltI hm hj).mpr h.2; omega, rfl⟩
def pvP (L : LD) (p : Int32) : Bool := !decide (p < 0) && !decide (nI (L 5 0) ≤ p)
theorem pv_n {L : LD} {x : Int32} (hL : L 5 0 ≤ 6) (h : pvP L x = true) : ∃ j, j < L 5 0 ∧ x = nI j := by
  unfold pvP at h
  rw [Bool.and_eq_true, Bool.not_eq_true', Bool.not_eq_true', decide_eq_false_iff_not, decide_eq_false_iff_not] at h
  obtain ⟨j, hj, rfl⟩ := nI_of h.1
  exact ⟨j, by have := mt (nI_leI (by omega) hj).mpr h.2; omega, rfl⟩
/-- one number of L changed -/
def lUp (L : LD) (k j x : Nat) : LD := va_up L k (va_up (L k) j x)
/-- the pass' numbers, asked one by one -/
def aOf (L : LD) (p w : Int32) : Int32 := if pvP L p then (if w = 0 then nI (L 8 p.toNatClampNeg) else if w = 1 then nI (L 9 p.toNatClampNeg) else if w = 2 then nI (L 10 p.toNatClampNeg) else if w = 3 then nI (L 11 p.toNatClampNeg) else if w = 4 then nI (L 12 p.toNatClampNeg) else if w = 5 then nI (pTk L p.toNatClampNeg) else -2) else -1
def okSnow (L : LD) (d v : Int32) : Bool := mWi d 0 7 && mWi v 0 9 && decide (L 5 0 ≠ 0)
def aSnow (L : LD) (d v : Int32) : Int32 := if mWi d 0 7 && mWi v 0 9 then (if L 5 0 = 0 then -3 else nI (L 6 d.toNatClampNeg)) else -2
def sSnow (L : LD) (d v : Int32) : LD := if okSnow L d v then lUp L 6 d.toNatClampNeg v.toNatClampNeg else L
def okGive (L : LD) (d v : Int32) : Bool := mWi d 0 2 && mWi v 0 255 && decide (L 5 0 ≠ 0)
def aGive (L : LD) (d v : Int32) : Int32 := if mWi d 0 2 then (if mWi v 0 255 then (if L 5 0 = 0 then -3 else nI (L 7 d.toNatClampNeg)) else -2) else -1
def sGive (L : LD) (d v : Int32) : LD := if okGive L d v then lUp L 7 d.toNatClampNeg v.toNatClampNeg else L
/-- a set of numbers below n, as bits of an int -/
def bSet (f : Nat → Bool) : Nat → Int32
  | 0 => 0
  | n + 1 => bSet f n ||| (if f n then 1 <<< (nI n &&& 31) else 0)
def aOpen (L : LD) (d : Int32) : Int32 := if mWi d 0 7 then (if L 5 0 = 0 then -3 else bSet (fun p => pOp L 99 p d.toNatClampNeg) (L 5 0)) else -2
def aSoon (L : LD) (d : Int32) : Int32 := if mWi d 0 7 then (if L 5 0 = 0 then -3 else eN (pWh L 99 d.toNatClampNeg).2.1) else -2
def aHole (L : LD) (d : Int32) : Int32 := if mWi d 0 7 then (if L 5 0 = 0 then -3 else eN (pWh L 99 d.toNatClampNeg).2.2) else -2
/-- the last below n for which f; 99: none -/
def lastN (f : Nat → Bool) : Nat → Nat
  | 0 => 99
  | n + 1 => if f n then n else lastN f n
def aLast (L : LD) (x : Int32) : Int32 := if mWi x 0 7 then (if L 5 0 = 0 then -3 else eN (lastN (fun d => pBy L 99 d x.toNatClampNeg) (x.toNatClampNeg + 1))) else -2
def clr (a k : Nat) : Nat := if a.testBit k then a - 2 ^ k else a
/-- valleys 1 and 2 give a and b -/
def l12 (L : LD) (a b : Nat) : LD := lUp (lUp L 7 1 a) 7 2 b
def sfN (L : LD) (d x : Nat) : Nat → Bool
  | 0 => true
  | k + 1 => sfN L d x k && pBy (l12 L (clr (L 7 1) (k / 9)) (clr (L 7 2) (k % 9))) 99 d x
def aSafe (L : LD) (x : Int32) : Int32 := if mWi x 0 7 then (if L 5 0 = 0 then -3 else eN (lastN (fun d => sfN L d x.toNatClampNeg 81) (x.toNatClampNeg + 1))) else -2
def aHang (L : LD) (d x : Int32) : Int32 := if mWi d 0 7 && mWi x 0 7 then (if L 5 0 = 0 then -3 else if pBy L 99 d.toNatClampNeg x.toNatClampNeg then bSet (fun p => !pBy L p d.toNatClampNeg x.toNatClampNeg) (L 5 0) else 0) else -2
theorem aOf_no {L : LD} {p w : Int32} (h : pvP L p = false) : aOf L p w = -1 := by unfold aOf; rw [h]; rfl
theorem bSet_s (f : Nat → Bool) (n : Nat) {x y : Int32} (hx : x = bSet f n) (hy : y = if f n then 1 <<< (nI n &&& 31) else 0) : x ||| y = bSet f (n + 1) := by rw [bSet, hx, hy]
theorem lastN_le (f : Nat → Bool) : ∀ n, n ≤ 99 → lastN f n ≤ 99
  | 0, _ => Nat.le_refl _
  | n + 1, h => by
    unfold lastN; split
    · omega
    · exact lastN_le f n (by omega)
theorem LOk.up6 {L : LD} (h : LOk L) {d x : Nat} (hx : x ≤ 9) : LOk (lUp L 6 d x) := by
  refine ⟨h.1, h.2.1, fun d' hd' => ?_, h.2.2.2⟩
  show va_up (L 6) d x d' ≤ 9
  unfold va_up; split
  · exact hx
  · exact h.2.2.1 d' hd'
theorem LOk.up7 {L : LD} (h : LOk L) {d x : Nat} (hx : x ≤ 255) : LOk (lUp L 7 d x) := by
  refine ⟨h.1, h.2.1, h.2.2.1, fun d' hd' => ?_⟩
  show va_up (L 7) d x d' ≤ 255
  unfold va_up; split
  · exact hx
  · exact h.2.2.2 d' hd'
theorem mLd_up6 {S : MS} {L : LD} {ms d x : Nat} (h : mLd S L ms) : mLd (S.1, va_up S.2 6 (upd (S.2 6) d (nI x))) (lUp L 6 d x) ms := by
  refine ⟨h.1, h.2.1, h.2.2.1, fun d' hd' => ?_, h.2.2.2.2⟩
  show upd (S.2 6) d (nI x) d' = nI (va_up (L 6) d x d')
  unfold upd va_up; split
  · rfl
  · exact h.2.2.2.1 d' hd'
theorem mLd_up7 {S : MS} {L : LD} {ms d x : Nat} (h : mLd S L ms) : mLd (S.1, va_up S.2 7 (upd (S.2 7) d (nI x))) (lUp L 7 d x) ms := by
  refine ⟨h.1, h.2.1, h.2.2.1, h.2.2.2.1, fun d' hd' => ?_⟩
  show upd (S.2 7) d (nI x) d' = nI (va_up (L 7) d x d')
  unfold upd va_up; split
  · rfl
  · exact h.2.2.2.2 d' hd'

theorem sw_ne {x : Int32} {n : Nat} (k : Nat) (h : x.toInt < 0 ∨ (n : Int) < x.toInt) (hk : k ≤ n ∧ k < 2 ^ 31) : ¬ x = nI k := by
  rintro rfl
  rw [nI_toInt hk.2] at h
  omega
theorem isPassA {S : MS} {L : LD} {ms : Nat} (hS : mLd S L ms) (x : Int32) : (!decide (x < 0) && !decide (S.1 5 ≤ x)) = pvP L x := by rw [hS.1]; rfl
theorem mt_isPassA (l : Launch) (G : gG) (o : Nat) (q : Nat → Nat) (S : MS) (x : Int32) (L : LD) (ms : Nat) (hL : LOk L) (hS : mLd S L ms) : gMi l yX1_isPass cX1_isPass 2 (some .boolean) ({ frames := 0, cells := 0, slots := 0, locals := 0 } : Room) G [.ref o, .int (x)] (mW G o q S) (fun S' => mW G o q S') (fun ρ S' => bI (pvP L x) = ρ ∧ S = S') := gMi.to (mt_isPass l G o q S x) (by funext ρ S'; rw [isPassA hS])
theorem hd_mt_ofPass : yX1_ofPass.cls = RX1 ∧ yX1_ofPass.cls ≠ "java/lang/invoke/MethodHandle" ∧ yX1_ofPass.cls ≠ "java/lang/invoke/VarHandle" ∧ (parseMethodDescriptor yX1_ofPass.desc).map (fun d => d.parameters.length) = some 2 := by decide +kernel
set_option maxHeartbeats 4000000 in
theorem mt_ofPass (l : Launch) (G : gG) (o : Nat) (q : Nat → Nat) (S : MS) (x : Int32) (w : Int32) (L : LD) (hL : LOk L) (hS : mLd S L 99) : gMi l yX1_ofPass cX1_ofPass 3 (some .int) ({ frames := 1, cells := 0, slots := 0, locals := 21 } : Room) G [.ref o, .int (x), .int (w)] (mW G o q S) (fun S' => mW G o q S') (fun ρ S' => aOf L x w = ρ ∧ mKeep S S') := by
  refine gMi_of (by decide) (Nat.le_of_ble_eq_true rfl) ?_
  intro p e s m below meth c ls A F I hl
  have hl : lv_has ls 3 [(0, .ref (o)), (1, .int (x)), (2, .int (w))] := hl
  have hL5 := hL.1
  have hS0 := hS
  have hms : 99 < 100 := by decide
  refine lv_aload_n F.x F.b dX1_ofPass_0 rfl (lv_at hl 0 rfl) ?_
  refine lv_iload_n F.x F.b dX1_ofPass_1 rfl (lv_at hl 1 rfl) ?_
  refine g_calli I (g_runV (n := 1) (ci := 0) (q0 := 0) (As := [.int (x)]) (rest := []) F I (mt_isPassA l G o q (S) (x) L 99 (by exact hL) (by exact hS) _) q1292 q1294 qs34 q56 q1295 hd_mt_isPass ⟨Nat.le_of_ble_eq_true rfl, Nat.le_of_ble_eq_true rfl⟩ rfl rfl rfl rfl hl.1 rfl (lv_room (Nat.le_of_ble_eq_true rfl)) dX1_ofPass_2 ⟨by first | exact Nat.le_refl _ | decide, by first | exact Nat.le_refl _ | decide⟩) (fun r u_ H locs hp I => ?_)
  obtain ⟨rfl, rfl⟩ := hp
  refine z_ne (tgt := 10) F dX1_ofPass_5 (by decide) (fun c_5 => ?_) (fun c_5 => ?_)
  · obtain ⟨j, hj, rfl⟩ := pv_n hL5 c_5
    have tj : (nI j).toNatClampNeg = j := nI_clamp (by omega)
    refine lv_iload_n F.x F.b dX1_ofPass_10 rfl (lv_at hl 2 rfl) ?_
    have hj6 : j < 6 := by omega
    have hld := hS.2.2.1 j hj
    rcases sw_n (w) 5 (by decide) with ⟨j11, hj11, c_11⟩ | c_11
    · rcases (show j11 = 0 ∨ j11 = 1 ∨ j11 = 2 ∨ j11 = 3 ∨ j11 = 4 ∨ j11 = 5 by omega) with rfl | rfl | rfl | rfl | rfl | rfl
      · refine W.val (y := nI 0) c_11 ?_
        refine lv_tableIn (off := 37) (tgt := 48) F.x F.b dX1_ofPass_11 (by decide) (by decide) (by decide) (by decide) ?_
        refine lv_aload_n F.x F.b dX1_ofPass_48 rfl (lv_at hl 0 rfl) ?_
        refine m_geta F I 8 (by decide) q1163 dX1_ofPass_49 ?_
        refine lv_iload_n F.x F.b dX1_ofPass_52 rfl (lv_at hl 1 rfl) ?_
        refine m_ld (v := ((S.2 8) (j))) F I 8 (by decide) (show j < 6 by omega) rfl dX1_ofPass_53 ?_
        refine W.val (y := nI (L 8 j)) (by exact hld.1) ?_
        exact g_iret (u := S) F I (by exact ⟨by unfold aOf; rw [c_5, tj]; rw [c_11]; rfl, mKeep.rf⟩) dX1_ofPass_54 (by first | exact Nat.le_refl _ | decide) (by first | exact Nat.le_refl _ | decide)
      · refine W.val (y := nI 1) c_11 ?_
        refine lv_tableIn (off := 44) (tgt := 55) F.x F.b dX1_ofPass_11 (by decide) (by decide) (by decide) (by decide) ?_
        refine lv_aload_n F.x F.b dX1_ofPass_55 rfl (lv_at hl 0 rfl) ?_
        refine m_geta F I 9 (by decide) q1164 dX1_ofPass_56 ?_
        refine lv_iload_n F.x F.b dX1_ofPass_59 rfl (lv_at hl 1 rfl) ?_
        refine m_ld (v := ((S.2 9) (j))) F I 9 (by decide) (show j < 6 by omega) rfl dX1_ofPass_60 ?_
        refine W.val (y := nI (L 9 j)) (by exact hld.2.1) ?_
        exact g_iret (u := S) F I (by exact ⟨by unfold aOf; rw [c_5, tj]; rw [c_11]; rfl, mKeep.rf⟩) dX1_ofPass_61 (by first | exact Nat.le_refl _ | decide) (by first | exact Nat.le_refl _ | decide)
      · refine W.val (y := nI 2) c_11 ?_
        refine lv_tableIn (off := 51) (tgt := 62) F.x F.b dX1_ofPass_11 (by decide) (by decide) (by decide) (by decide) ?_
        refine lv_aload_n F.x F.b dX1_ofPass_62 rfl (lv_at hl 0 rfl) ?_
        refine m_geta F I 10 (by decide) q1165 dX1_ofPass_63 ?_
        refine lv_iload_n F.x F.b dX1_ofPass_66 rfl (lv_at hl 1 rfl) ?_
        refine m_ld (v := ((S.2 10) (j))) F I 10 (by decide) (show j < 6 by omega) rfl dX1_ofPass_67 ?_
        refine W.val (y := nI (L 10 j)) (by exact hld.2.2.1) ?_
        exact g_iret (u := S) F I (by exact ⟨by unfold aOf; rw [c_5, tj]; rw [c_11]; rfl, mKeep.rf⟩) dX1_ofPass_68 (by first | exact Nat.le_refl _ | decide) (by first | exact Nat.le_refl _ | decide)
      · refine W.val (y := nI 3) c_11 ?_
        refine lv_tableIn (off := 58) (tgt := 69) F.x F.b dX1_ofPass_11 (by decide) (by decide) (by decide) (by decide) ?_
        refine lv_aload_n F.x F.b dX1_ofPass_69 rfl (lv_at hl 0 rfl) ?_
        refine m_geta F I 11 (by decide) q1166 dX1_ofPass_70 ?_
        refine lv_iload_n F.x F.b dX1_ofPass_73 rfl (lv_at hl 1 rfl) ?_
        refine m_ld (v := ((S.2 11) (j))) F I 11 (by decide) (show j < 6 by omega) rfl dX1_ofPass_74 ?_
        refine W.val (y := nI (L 11 j)) (by exact hld.2.2.2.1) ?_
        exact g_iret (u := S) F I (by exact ⟨by unfold aOf; rw [c_5, tj]; rw [c_11]; rfl, mKeep.rf⟩) dX1_ofPass_75 (by first | exact Nat.le_refl _ | decide) (by first | exact Nat.le_refl _ | decide)
      · refine W.val (y := nI 4) c_11 ?_
        refine lv_tableIn (off := 65) (tgt := 76) F.x F.b dX1_ofPass_11 (by decide) (by decide) (by decide) (by decide) ?_
        refine lv_aload_n F.x F.b dX1_ofPass_76 rfl (lv_at hl 0 rfl) ?_
        refine m_geta F I 12 (by decide) q1167 dX1_ofPass_77 ?_
        refine lv_iload_n F.x F.b dX1_ofPass_80 rfl (lv_at hl 1 rfl) ?_
        refine m_ld (v := ((S.2 12) (j))) F I 12 (by decide) (show j < 6 by omega) rfl dX1_ofPass_81 ?_
        refine W.val (y := nI (L 12 j)) (by exact hld.2.2.2.2) ?_
        exact g_iret (u := S) F I (by exact ⟨by unfold aOf; rw [c_5, tj]; rw [c_11]; rfl, mKeep.rf⟩) dX1_ofPass_82 (by first | exact Nat.le_refl _ | decide) (by first | exact Nat.le_refl _ | decide)
      · refine W.val (y := nI 5) c_11 ?_
        refine lv_tableIn (off := 72) (tgt := 83) F.x F.b dX1_ofPass_11 (by decide) (by decide) (by decide) (by decide) ?_
        refine lv_aload_n F.x F.b dX1_ofPass_83 rfl (lv_at hl 0 rfl) ?_
        refine lv_iload_n F.x F.b dX1_ofPass_84 rfl (lv_at hl 1 rfl) ?_
        refine g_calli I (g_runV (n := 1) (ci := 0) (q0 := 0) (As := [.int (nI (j))]) (rest := []) F I (mt_takesA l G o q (S) (j) L 99 (by exact hL) (by exact hS) (by omega) _) q1296 q1298 qs35 q56 q1299 hd_mt_takes ⟨Nat.le_of_ble_eq_true rfl, Nat.le_of_ble_eq_true rfl⟩ rfl rfl rfl rfl hl.1 rfl (lv_room (Nat.le_of_ble_eq_true rfl)) dX1_ofPass_85 ⟨by first | exact Nat.le_refl _ | decide, by first | exact Nat.le_refl _ | decide⟩) (fun r u_ H locs hp I => ?_)
        obtain ⟨rfl, rfl⟩ := hp
        exact g_iret (u := S) F I (by exact ⟨by unfold aOf; rw [c_5, tj]; rw [c_11]; rfl, mKeep.rf⟩) dX1_ofPass_88 (by first | exact Nat.le_refl _ | decide) (by first | exact Nat.le_refl _ | decide)
    · refine lv_tableOut (tgt := 89) F.x F.b dX1_ofPass_11 c_11 (by decide) ?_
      refine lv_bipush (v := (-2)) F.x F.b dX1_ofPass_89 (by decide) ?_
      exact g_iret (u := S) F I (by exact ⟨by unfold aOf; rw [c_5, tj]; rw [if_pos rfl, if_neg (show ¬ w = 0 from sw_ne 0 c_11 (by decide)), if_neg (show ¬ w = 1 from sw_ne 1 c_11 (by decide)), if_neg (show ¬ w = 2 from sw_ne 2 c_11 (by decide)), if_neg (show ¬ w = 3 from sw_ne 3 c_11 (by decide)), if_neg (show ¬ w = 4 from sw_ne 4 c_11 (by decide)), if_neg (show ¬ w = 5 from sw_ne 5 c_11 (by decide))], mKeep.rf⟩) dX1_ofPass_91 (by first | exact Nat.le_refl _ | decide) (by first | exact Nat.le_refl _ | decide)
  · refine lv_iconst (v := (-1)) F.x F.b dX1_ofPass_8 (by decide) ?_
    exact g_iret (u := S) F I (by exact ⟨aOf_no c_5, mKeep.rf⟩) dX1_ofPass_9 (by first | exact Nat.le_refl _ | decide) (by first | exact Nat.le_refl _ | decide)

theorem hd_mt_snow : yX1_snow.cls = RX1 ∧ yX1_snow.cls ≠ "java/lang/invoke/MethodHandle" ∧ yX1_snow.cls ≠ "java/lang/invoke/VarHandle" ∧ (parseMethodDescriptor yX1_snow.desc).map (fun d => d.parameters.length) = some 2 := by decide +kernel
set_option maxHeartbeats 4000000 in
theorem mt_snow (l : Launch) (G : gG) (o : Nat) (q : Nat → Nat) (S : MS) (x : Int32) (v : Int32) (L : LD) (hL : LOk L) (hS : mLd S L 99) : gMi l yX1_snow cX1_snow 4 (some .int) ({ frames := 2, cells := 0, slots := 0, locals := 42 } : Room) G [.ref o, .int (x), .int (v)] (mW G o q S) (fun S' => mW G o q S') (fun ρ S' => aSnow L x v = ρ ∧ mLd S' (sSnow L x v) 99 ∧ mKeep (S'.1, va_up S'.2 6 (S.2 6)) S) := by
  refine gMi_of (by decide) (Nat.le_of_ble_eq_true rfl) ?_
  intro p e s m below meth c ls A F I hl
  have hl : lv_has ls 4 [(0, .ref (o)), (1, .int (x)), (2, .int (v))] := hl
  have hL5 := hL.1
  have hS0 := hS
  have hms : 99 < 100 := by decide
  refine lv_iload_n F.x F.b dX1_snow_0 rfl (lv_at hl 1 rfl) ?_
  refine g_calli I (g_runS (n := 1) (As := [.int (x)]) (rest := []) F I (mt_isDay l G _ (x)   _) q1304 q1305 q56 q1306 hd_mt_isDay.2 ⟨Nat.le_of_ble_eq_true rfl, Nat.le_of_ble_eq_true rfl⟩ rfl rfl hl.1 rfl (lv_room (Nat.le_of_ble_eq_true rfl)) dX1_snow_1 ⟨by first | exact Nat.le_refl _ | decide, by first | exact Nat.le_refl _ | decide⟩) (fun r u_ H locs hp I => ?_)
  obtain rfl := hp
  refine z_eq (tgt := 17) F dX1_snow_4 (by decide) (fun c_4 => ?_) (fun c_4 => ?_)
  · refine lv_bipush (v := (-2)) F.x F.b dX1_snow_17 (by decide) ?_
    exact g_iret (u := S) F I (by exact ⟨by simp [aSnow, *], by simp [sSnow, okSnow, *], mKeep.rf⟩) dX1_snow_19 (by first | exact Nat.le_refl _ | decide) (by first | exact Nat.le_refl _ | decide)
  · obtain ⟨j, hj, rfl⟩ := wi_n (m := 7) (by decide) c_4
    have tj : (nI j).toNatClampNeg = j := nI_clamp (by omega)
    refine lv_iload_n F.x F.b dX1_snow_7 rfl (lv_at hl 2 rfl) ?_
    refine lv_iconst (v := nI (0)) F.x F.b dX1_snow_8 (by decide) ?_
    refine lv_bipush (v := nI (9)) F.x F.b dX1_snow_9 (by decide) ?_
    refine g_calli I (g_runS (n := 3) (As := [.int (v), .int (nI (0)), .int (nI (9))]) (rest := []) F I (mt_within l G _ (v) (0) (9)   _) q1250 q1251 q56 q1252 hd_mt_within.2 ⟨Nat.le_of_ble_eq_true rfl, Nat.le_of_ble_eq_true rfl⟩ rfl rfl hl.1 rfl (lv_room (Nat.le_of_ble_eq_true rfl)) dX1_snow_11 ⟨by first | exact Nat.le_refl _ | decide, by first | exact Nat.le_refl _ | decide⟩) (fun r u_ H locs hp I => ?_)
    obtain rfl := hp
    refine z_ne (tgt := 20) F dX1_snow_14 (by decide) (fun c_14 => ?_) (fun c_14 => ?_)
    · obtain ⟨i, hi, rfl⟩ := wi_n (m := 9) (by decide) c_14
      have ti : (nI i).toNatClampNeg = i := nI_clamp (by omega)
      refine lv_aload_n F.x F.b dX1_snow_20 rfl (lv_at hl 0 rfl) ?_
      refine m_get (v := nI (L 5 0)) F I 5 (by decide) hS.1 q1160 dX1_snow_21 ?_
      refine n_if_ne (tgt := 30) F (by omega) dX1_snow_24 (by decide) (fun c_24 => ?_) (fun c_24 => ?_)
      · refine lv_aload_n F.x F.b dX1_snow_30 rfl (lv_at hl 0 rfl) ?_
        refine m_geta F I 6 (by decide) q1161 dX1_snow_31 ?_
        refine lv_iload_n F.x F.b dX1_snow_34 rfl (lv_at hl 1 rfl) ?_
        refine m_ld (v := ((S.2 6) (j))) F I 6 (by decide) (show j < 8 by omega) rfl dX1_snow_35 ?_
        refine W.val (y := nI (L 6 j)) (by exact hS.2.2.2.1 j (by omega)) ?_
        refine lv_istore_n (lv' := [(3, .int (nI (L 6 j))), (0, .ref (o)), (1, .int (nI (j))), (2, .int (nI (i)))]) F.x F.b dX1_snow_36 rfl hl (by decide) rfl (fun ls hl => ?_)
        refine lv_aload_n F.x F.b dX1_snow_37 rfl (lv_at hl 1 rfl) ?_
        refine m_geta F I 6 (by decide) q1161 dX1_snow_38 ?_
        refine lv_iload_n F.x F.b dX1_snow_41 rfl (lv_at hl 2 rfl) ?_
        refine lv_iload_n F.x F.b dX1_snow_42 rfl (lv_at hl 3 rfl) ?_
        refine m_st F I 6 (by decide) (show j < 8 by omega) dX1_snow_43 (fun H locs (I : Iw G A s (mW G o q (S.1, va_up S.2 6 (upd (S.2 6) (j) (nI (i))))) H locs) => ?_)
        refine lv_iload_n F.x F.b dX1_snow_44 rfl (lv_at hl 0 rfl) ?_
        exact g_iret (u := (S.1, va_up S.2 6 (upd (S.2 6) (j) (nI (i))))) F I (by exact ⟨by simp [aSnow, *], by rw [sSnow, if_pos (by simp [okSnow, *]), tj, ti]; exact mLd_up6 hS, by exact ⟨rfl, rfl, rfl, rfl, rfl, rfl, rfl, rfl, rfl, rfl, rfl, rfl, rfl, rfl, rfl, rfl, rfl⟩⟩) dX1_snow_45 (by first | exact Nat.le_refl _ | decide) (by first | exact Nat.le_refl _ | decide)
      · refine lv_bipush (v := (-3)) F.x F.b dX1_snow_27 (by decide) ?_
        exact g_iret (u := S) F I (by exact ⟨by simp [aSnow, *], by simp [sSnow, okSnow, *], mKeep.rf⟩) dX1_snow_29 (by first | exact Nat.le_refl _ | decide) (by first | exact Nat.le_refl _ | decide)
    · refine lv_bipush (v := (-2)) F.x F.b dX1_snow_17 (by decide) ?_
      exact g_iret (u := S) F I (by exact ⟨by simp [aSnow, *], by simp [sSnow, okSnow, *], mKeep.rf⟩) dX1_snow_19 (by first | exact Nat.le_refl _ | decide) (by first | exact Nat.le_refl _ | decide)

theorem hd_mt_give : yX1_give.cls = RX1 ∧ yX1_give.cls ≠ "java/lang/invoke/MethodHandle" ∧ yX1_give.cls ≠ "java/lang/invoke/VarHandle" ∧ (parseMethodDescriptor yX1_give.desc).map (fun d => d.parameters.length) = some 2 := by decide +kernel
set_option maxHeartbeats 4000000 in
theorem mt_give (l : Launch) (G : gG) (o : Nat) (q : Nat → Nat) (S : MS) (x : Int32) (v : Int32) (L : LD) (hL : LOk L) (hS : mLd S L 99) : gMi l yX1_give cX1_give 4 (some .int) ({ frames := 2, cells := 0, slots := 0, locals := 42 } : Room) G [.ref o, .int (x), .int (v)] (mW G o q S) (fun S' => mW G o q S') (fun ρ S' => aGive L x v = ρ ∧ mLd S' (sGive L x v) 99 ∧ mKeep (S'.1, va_up S'.2 7 (S.2 7)) S) := by
  refine gMi_of (by decide) (Nat.le_of_ble_eq_true rfl) ?_
  intro p e s m below meth c ls A F I hl
  have hl : lv_has ls 4 [(0, .ref (o)), (1, .int (x)), (2, .int (v))] := hl
  have hL5 := hL.1
  have hS0 := hS
  have hms : 99 < 100 := by decide
  refine lv_iload_n F.x F.b dX1_give_0 rfl (lv_at hl 1 rfl) ?_
  refine g_calli I (g_runS (n := 1) (As := [.int (x)]) (rest := []) F I (mt_isValley l G _ (x)   _) q1311 q1312 q56 q1313 hd_mt_isValley.2 ⟨Nat.le_of_ble_eq_true rfl, Nat.le_of_ble_eq_true rfl⟩ rfl rfl hl.1 rfl (lv_room (Nat.le_of_ble_eq_true rfl)) dX1_give_1 ⟨by first | exact Nat.le_refl _ | decide, by first | exact Nat.le_refl _ | decide⟩) (fun r u_ H locs hp I => ?_)
  obtain rfl := hp
  refine z_ne (tgt := 9) F dX1_give_4 (by decide) (fun c_4 => ?_) (fun c_4 => ?_)
  · obtain ⟨j, hj, rfl⟩ := wi_n (m := 2) (by decide) c_4
    have tj : (nI j).toNatClampNeg = j := nI_clamp (by omega)
    refine lv_iload_n F.x F.b dX1_give_9 rfl (lv_at hl 2 rfl) ?_
    refine lv_iconst (v := nI (0)) F.x F.b dX1_give_10 (by decide) ?_
    refine lv_sipush (v := nI (255)) F.x F.b dX1_give_11 (by decide) ?_
    refine g_calli I (g_runS (n := 3) (As := [.int (v), .int (nI (0)), .int (nI (255))]) (rest := []) F I (mt_within l G _ (v) (0) (255)   _) q1250 q1251 q56 q1252 hd_mt_within.2 ⟨Nat.le_of_ble_eq_true rfl, Nat.le_of_ble_eq_true rfl⟩ rfl rfl hl.1 rfl (lv_room (Nat.le_of_ble_eq_true rfl)) dX1_give_14 ⟨by first | exact Nat.le_refl _ | decide, by first | exact Nat.le_refl _ | decide⟩) (fun r u_ H locs hp I => ?_)
    obtain rfl := hp
    refine z_ne (tgt := 23) F dX1_give_17 (by decide) (fun c_17 => ?_) (fun c_17 => ?_)
    · obtain ⟨i, hi, rfl⟩ := wi_n (m := 255) (by decide) c_17
      have ti : (nI i).toNatClampNeg = i := nI_clamp (by omega)
      refine lv_aload_n F.x F.b dX1_give_23 rfl (lv_at hl 0 rfl) ?_
      refine m_get (v := nI (L 5 0)) F I 5 (by decide) hS.1 q1160 dX1_give_24 ?_
      refine n_if_ne (tgt := 33) F (by omega) dX1_give_27 (by decide) (fun c_27 => ?_) (fun c_27 => ?_)
      · refine lv_aload_n F.x F.b dX1_give_33 rfl (lv_at hl 0 rfl) ?_
        refine m_geta F I 7 (by decide) q1162 dX1_give_34 ?_
        refine lv_iload_n F.x F.b dX1_give_37 rfl (lv_at hl 1 rfl) ?_
        refine m_ld (v := ((S.2 7) (j))) F I 7 (by decide) (show j < 3 by omega) rfl dX1_give_38 ?_
        refine W.val (y := nI (L 7 j)) (by exact hS.2.2.2.2 j (by omega)) ?_
        refine lv_istore_n (lv' := [(3, .int (nI (L 7 j))), (0, .ref (o)), (1, .int (nI (j))), (2, .int (nI (i)))]) F.x F.b dX1_give_39 rfl hl (by decide) rfl (fun ls hl => ?_)
        refine lv_aload_n F.x F.b dX1_give_40 rfl (lv_at hl 1 rfl) ?_
        refine m_geta F I 7 (by decide) q1162 dX1_give_41 ?_
        refine lv_iload_n F.x F.b dX1_give_44 rfl (lv_at hl 2 rfl) ?_
        refine lv_iload_n F.x F.b dX1_give_45 rfl (lv_at hl 3 rfl) ?_
        refine m_st F I 7 (by decide) (show j < 3 by omega) dX1_give_46 (fun H locs (I : Iw G A s (mW G o q (S.1, va_up S.2 7 (upd (S.2 7) (j) (nI (i))))) H locs) => ?_)
        refine lv_iload_n F.x F.b dX1_give_47 rfl (lv_at hl 0 rfl) ?_
        exact g_iret (u := (S.1, va_up S.2 7 (upd (S.2 7) (j) (nI (i))))) F I (by exact ⟨by simp [aGive, *], by rw [sGive, if_pos (by simp [okGive, *]), tj, ti]; exact mLd_up7 hS, by exact ⟨rfl, rfl, rfl, rfl, rfl, rfl, rfl, rfl, rfl, rfl, rfl, rfl, rfl, rfl, rfl, rfl, rfl⟩⟩) dX1_give_48 (by first | exact Nat.le_refl _ | decide) (by first | exact Nat.le_refl _ | decide)
      · refine lv_bipush (v := (-3)) F.x F.b dX1_give_30 (by decide) ?_
        exact g_iret (u := S) F I (by exact ⟨by simp [aGive, *], by simp [sGive, okGive, *], mKeep.rf⟩) dX1_give_32 (by first | exact Nat.le_refl _ | decide) (by first | exact Nat.le_refl _ | decide)
    · refine lv_bipush (v := (-2)) F.x F.b dX1_give_20 (by decide) ?_
      exact g_iret (u := S) F I (by exact ⟨by simp [aGive, *], by simp [sGive, okGive, *], mKeep.rf⟩) dX1_give_22 (by first | exact Nat.le_refl _ | decide) (by first | exact Nat.le_refl _ | decide)
  · refine lv_iconst (v := (-1)) F.x F.b dX1_give_7 (by decide) ?_
    exact g_iret (u := S) F I (by exact ⟨by simp [aGive, *], by simp [sGive, okGive, *], mKeep.rf⟩) dX1_give_8 (by first | exact Nat.le_refl _ | decide) (by first | exact Nat.le_refl _ | decide)

theorem hd_mt_open : yX1_open.cls = RX1 ∧ yX1_open.cls ≠ "java/lang/invoke/MethodHandle" ∧ yX1_open.cls ≠ "java/lang/invoke/VarHandle" ∧ (parseMethodDescriptor yX1_open.desc).map (fun d => d.parameters.length) = some 1 := by decide +kernel
set_option maxHeartbeats 4000000 in
theorem mt_open (l : Launch) (G : gG) (o : Nat) (q : Nat → Nat) (S : MS) (x : Int32) (L : LD) (hL : LOk L) (hS : mLd S L 99) : gMi l yX1_open cX1_open 4 (some .int) ({ frames := 2, cells := 0, slots := 0, locals := 42 } : Room) G [.ref o, .int (x)] (mW G o q S) (fun S' => mW G o q S') (fun ρ S' => aOpen L x = ρ ∧ mKeep S S') := by
  refine gMi_of (by decide) (Nat.le_of_ble_eq_true rfl) ?_
  intro p e s m below meth c ls A F I hl
  have hl : lv_has ls 4 [(0, .ref (o)), (1, .int (x))] := hl
  have hL5 := hL.1
  have hS0 := hS
  have hms : 99 < 100 := by decide
  refine lv_iload_n F.x F.b dX1_open_0 rfl (lv_at hl 1 rfl) ?_
  refine g_calli I (g_runS (n := 1) (As := [.int (x)]) (rest := []) F I (mt_isDay l G _ (x)   _) q1304 q1305 q56 q1306 hd_mt_isDay.2 ⟨Nat.le_of_ble_eq_true rfl, Nat.le_of_ble_eq_true rfl⟩ rfl rfl hl.1 rfl (lv_room (Nat.le_of_ble_eq_true rfl)) dX1_open_1 ⟨by first | exact Nat.le_refl _ | decide, by first | exact Nat.le_refl _ | decide⟩) (fun r u_ H locs hp I => ?_)
  obtain rfl := hp
  refine z_ne (tgt := 10) F dX1_open_4 (by decide) (fun c_4 => ?_) (fun c_4 => ?_)
  · obtain ⟨j, hj, rfl⟩ := wi_n (m := 7) (by decide) c_4
    have tj : (nI j).toNatClampNeg = j := nI_clamp (by omega)
    refine lv_aload_n F.x F.b dX1_open_10 rfl (lv_at hl 0 rfl) ?_
    refine m_get (v := nI (L 5 0)) F I 5 (by decide) hS.1 q1160 dX1_open_11 ?_
    refine n_if_ne (tgt := 20) F (by omega) dX1_open_14 (by decide) (fun c_14 => ?_) (fun c_14 => ?_)
    · refine lv_iconst (v := nI (0)) F.x F.b dX1_open_20 (by decide) ?_
      refine lv_istore_n (lv' := [(2, .int (nI (0))), (0, .ref (o)), (1, .int (nI (j)))]) F.x F.b dX1_open_21 rfl hl (by decide) rfl (fun ls hl => ?_)
      refine lv_iconst (v := nI (0)) F.x F.b dX1_open_22 (by decide) ?_
      refine lv_istore_n (lv' := [(3, .int (nI (0))), (2, .int (nI (0))), (0, .ref (o)), (1, .int (nI (j)))]) F.x F.b dX1_open_23 rfl hl (by decide) rfl (fun ls hl => ?_)
      refine W_ind 24 (fun _ => []) (fun n_J => n_J) (fun n_J H locs ls => ∃ (k : Nat), n_J = L 5 0 - k ∧ (k ≤ L 5 0) ∧  Iw G A s (mW G o q S) H locs ∧ lv_has ls 4 [(0, .ref (o)), (1, .int (nI (j))), (2, .int (bSet (fun p => pOp L 99 p j) k)), (3, .int (nI (k)))]) ?_ _ ⟨0, rfl, by omega, I, lv_sub hl [2, 3, 1, 0] rfl⟩
      intro n24 H locs ls hJ ih24
      obtain ⟨k, hn24, hk, I, hl⟩ := hJ
      refine lv_iload_n F.x F.b dX1_open_24 rfl (lv_at hl 3 rfl) ?_
      refine lv_aload_n F.x F.b dX1_open_25 rfl (lv_at hl 0 rfl) ?_
      refine m_get (v := nI (L 5 0)) F I 5 (by decide) hS.1 q1160 dX1_open_26 ?_
      refine n_icmp_ge (tgt := 57) F (by omega) (by omega) dX1_open_29 (by decide) (fun c_29 => ?_) (fun c_29 => ?_)
      · refine lv_iload_n F.x F.b dX1_open_57 rfl (lv_at hl 2 rfl) ?_
        exact g_iret (u := S) F I (by exact ⟨by rw [aOpen, if_pos c_4, if_neg c_14, tj, show L 5 0 = k by omega], mKeep.rf⟩) dX1_open_58 (by first | exact Nat.le_refl _ | decide) (by first | exact Nat.le_refl _ | decide)
      · refine lv_iload_n F.x F.b dX1_open_32 rfl (lv_at hl 2 rfl) ?_
        refine lv_aload_n F.x F.b dX1_open_33 rfl (lv_at hl 0 rfl) ?_
        refine lv_iload_n F.x F.b dX1_open_34 rfl (lv_at hl 3 rfl) ?_
        refine lv_iload_n F.x F.b dX1_open_35 rfl (lv_at hl 1 rfl) ?_
        refine g_calli I (g_runV (n := 2) (ci := 0) (q0 := 0) (As := [.int (nI (k)), .int (nI (j))]) (rest := [.int (bSet (fun p => pOp L 99 p j) k)]) F I (mt_isOpenA l G o q (S) (k) (j) L 99 (by exact hL) (by exact hS) (by exact hms) (by omega) (by omega) _) q1318 q1320 qs36 q56 q1321 hd_mt_isOpen ⟨Nat.le_of_ble_eq_true rfl, Nat.le_of_ble_eq_true rfl⟩ rfl rfl rfl rfl hl.1 rfl (lv_room (Nat.le_of_ble_eq_true rfl)) dX1_open_36 ⟨by first | exact Nat.le_refl _ | decide, by first | exact Nat.le_refl _ | decide⟩) (fun r u_ H locs hp I => ?_)
        obtain ⟨rfl, rfl⟩ := hp
        refine z_eq (tgt := 48) F dX1_open_39 (by decide) (fun c_39 => ?_) (fun c_39 => ?_)
        · refine lv_iconst (v := nI (0)) F.x F.b dX1_open_48 (by decide) ?_
          refine lv_ior (x := bSet (fun p => pOp L 99 p j) k) (y := 0) F.x F.b dX1_open_49 ?_
          refine W.val (y := bSet (fun p => pOp L 99 p j) (k + 1)) (by exact bSet_s (fun p => pOp L 99 p j) k rfl (by first | (rw [if_pos c_39]; done) | (rw [if_neg (by simp [c_39])]))) ?_
          refine lv_istore_n (lv' := [(2, .int (bSet (fun p => pOp L 99 p j) (k + 1))), (0, .ref (o)), (1, .int (nI (j))), (3, .int (nI (k)))]) F.x F.b dX1_open_50 rfl hl (by decide) rfl (fun ls hl => ?_)
          refine lv_iinc (v := nI ((k + 1))) (lv' := [(3, .int (nI ((k + 1)))), (2, .int (bSet (fun p => pOp L 99 p j) (k + 1))), (0, .ref (o)), (1, .int (nI (j)))]) F.x F.b dX1_open_51 hl (k := 3) rfl (nI_1 (k)) (by decide) rfl (fun ls hl => ?_)
          refine lv_goto (tgt := 24) F.x F.b dX1_open_54 (by decide) ?_
          exact ih24 _ _ _ _ (by omega) ⟨k + 1, rfl, by omega, I, lv_sub hl [2, 3, 1, 0] rfl⟩
        · refine lv_iconst (v := nI (1)) F.x F.b dX1_open_42 (by decide) ?_
          refine lv_iload_n F.x F.b dX1_open_43 rfl (lv_at hl 3 rfl) ?_
          refine lv_ishl (x := 1) (y := (nI (k))) F.x F.b dX1_open_44 ?_
          refine lv_goto (tgt := 49) F.x F.b dX1_open_45 (by decide) ?_
          refine lv_ior (x := bSet (fun p => pOp L 99 p j) k) (y := (1 <<< ((nI (k)) &&& 31))) F.x F.b dX1_open_49 ?_
          refine W.val (y := bSet (fun p => pOp L 99 p j) (k + 1)) (by exact bSet_s (fun p => pOp L 99 p j) k rfl (by first | (rw [if_pos c_39]; done) | (rw [if_neg (by simp [c_39])]))) ?_
          refine lv_istore_n (lv' := [(2, .int (bSet (fun p => pOp L 99 p j) (k + 1))), (0, .ref (o)), (1, .int (nI (j))), (3, .int (nI (k)))]) F.x F.b dX1_open_50 rfl hl (by decide) rfl (fun ls hl => ?_)
          refine lv_iinc (v := nI ((k + 1))) (lv' := [(3, .int (nI ((k + 1)))), (2, .int (bSet (fun p => pOp L 99 p j) (k + 1))), (0, .ref (o)), (1, .int (nI (j)))]) F.x F.b dX1_open_51 hl (k := 3) rfl (nI_1 (k)) (by decide) rfl (fun ls hl => ?_)
          refine lv_goto (tgt := 24) F.x F.b dX1_open_54 (by decide) ?_
          exact ih24 _ _ _ _ (by omega) ⟨k + 1, rfl, by omega, I, lv_sub hl [2, 3, 1, 0] rfl⟩
    · refine lv_bipush (v := (-3)) F.x F.b dX1_open_17 (by decide) ?_
      exact g_iret (u := S) F I (by exact ⟨by simp [aOpen, *], mKeep.rf⟩) dX1_open_19 (by first | exact Nat.le_refl _ | decide) (by first | exact Nat.le_refl _ | decide)
  · refine lv_bipush (v := (-2)) F.x F.b dX1_open_7 (by decide) ?_
    exact g_iret (u := S) F I (by exact ⟨by simp [aOpen, *], mKeep.rf⟩) dX1_open_9 (by first | exact Nat.le_refl _ | decide) (by first | exact Nat.le_refl _ | decide)

theorem hd_mt_soonest : yX1_soonest.cls = RX1 ∧ yX1_soonest.cls ≠ "java/lang/invoke/MethodHandle" ∧ yX1_soonest.cls ≠ "java/lang/invoke/VarHandle" ∧ (parseMethodDescriptor yX1_soonest.desc).map (fun d => d.parameters.length) = some 1 := by decide +kernel
set_option maxHeartbeats 4000000 in
theorem mt_soonest (l : Launch) (G : gG) (o : Nat) (q : Nat → Nat) (S : MS) (x : Int32) (L : LD) (hL : LOk L) (hS : mLd S L 99) : gMi l yX1_soonest cX1_soonest 2 (some .int) ({ frames := 5, cells := 0, slots := 0, locals := 117 } : Room) G [.ref o, .int (x)] (mW G o q S) (fun S' => mW G o q S') (fun ρ S' => aSoon L x = ρ ∧ mKeep S S') := by
  refine gMi_of (by decide) (Nat.le_of_ble_eq_true rfl) ?_
  intro p e s m below meth c ls A F I hl
  have hl : lv_has ls 2 [(0, .ref (o)), (1, .int (x))] := hl
  have hL5 := hL.1
  have hS0 := hS
  have hms : 99 < 100 := by decide
  refine lv_iload_n F.x F.b dX1_soonest_0 rfl (lv_at hl 1 rfl) ?_
  refine g_calli I (g_runS (n := 1) (As := [.int (x)]) (rest := []) F I (mt_isDay l G _ (x)   _) q1304 q1305 q56 q1306 hd_mt_isDay.2 ⟨Nat.le_of_ble_eq_true rfl, Nat.le_of_ble_eq_true rfl⟩ rfl rfl hl.1 rfl (lv_room (Nat.le_of_ble_eq_true rfl)) dX1_soonest_1 ⟨by first | exact Nat.le_refl _ | decide, by first | exact Nat.le_refl _ | decide⟩) (fun r u_ H locs hp I => ?_)
  obtain rfl := hp
  refine z_ne (tgt := 10) F dX1_soonest_4 (by decide) (fun c_4 => ?_) (fun c_4 => ?_)
  · obtain ⟨j, hj, rfl⟩ := wi_n (m := 7) (by decide) c_4
    have tj : (nI j).toNatClampNeg = j := nI_clamp (by omega)
    refine lv_aload_n F.x F.b dX1_soonest_10 rfl (lv_at hl 0 rfl) ?_
    refine m_get (v := nI (L 5 0)) F I 5 (by decide) hS.1 q1160 dX1_soonest_11 ?_
    refine n_if_ne (tgt := 22) F (by omega) dX1_soonest_14 (by decide) (fun c_14 => ?_) (fun c_14 => ?_)
    · refine lv_aload_n F.x F.b dX1_soonest_22 rfl (lv_at hl 0 rfl) ?_
      refine lv_iload_n F.x F.b dX1_soonest_23 rfl (lv_at hl 1 rfl) ?_
      refine g_calli I (g_runV (n := 1) (ci := 0) (q0 := 0) (As := [.int (nI (j))]) (rest := []) F I (mt_soonestOf l G o q (S) (j) L 99 (by exact hL) (by exact hS) (by exact hms) (by omega) _) q1326 q1328 qs37 q56 q1329 hd_mt_soonestOf ⟨Nat.le_of_ble_eq_true rfl, Nat.le_of_ble_eq_true rfl⟩ rfl rfl rfl rfl hl.1 rfl (lv_room (Nat.le_of_ble_eq_true rfl)) dX1_soonest_24 ⟨by first | exact Nat.le_refl _ | decide, by first | exact Nat.le_refl _ | decide⟩) (fun r Z24 H locs hp I => ?_)
      obtain ⟨rfl, hq24⟩ := hp
      exact g_iret (u := Z24) F I (by exact ⟨by simp [aSoon, *], hq24⟩) dX1_soonest_27 (by first | exact Nat.le_refl _ | decide) (by first | exact Nat.le_refl _ | decide)
    · refine lv_bipush (v := (-3)) F.x F.b dX1_soonest_17 (by decide) ?_
      refine lv_goto (tgt := 27) F.x F.b dX1_soonest_19 (by decide) ?_
      exact g_iret (u := S) F I (by exact ⟨by simp [aSoon, *], mKeep.rf⟩) dX1_soonest_27 (by first | exact Nat.le_refl _ | decide) (by first | exact Nat.le_refl _ | decide)
  · refine lv_bipush (v := (-2)) F.x F.b dX1_soonest_7 (by decide) ?_
    exact g_iret (u := S) F I (by exact ⟨by simp [aSoon, *], mKeep.rf⟩) dX1_soonest_9 (by first | exact Nat.le_refl _ | decide) (by first | exact Nat.le_refl _ | decide)

theorem hd_mt_holes : yX1_holes.cls = RX1 ∧ yX1_holes.cls ≠ "java/lang/invoke/MethodHandle" ∧ yX1_holes.cls ≠ "java/lang/invoke/VarHandle" ∧ (parseMethodDescriptor yX1_holes.desc).map (fun d => d.parameters.length) = some 1 := by decide +kernel
set_option maxHeartbeats 4000000 in
theorem mt_holes (l : Launch) (G : gG) (o : Nat) (q : Nat → Nat) (S : MS) (x : Int32) (L : LD) (hL : LOk L) (hS : mLd S L 99) : gMi l yX1_holes cX1_holes 2 (some .int) ({ frames := 4, cells := 0, slots := 0, locals := 96 } : Room) G [.ref o, .int (x)] (mW G o q S) (fun S' => mW G o q S') (fun ρ S' => aHole L x = ρ ∧ mKeep S S') := by
  refine gMi_of (by decide) (Nat.le_of_ble_eq_true rfl) ?_
  intro p e s m below meth c ls A F I hl
  have hl : lv_has ls 2 [(0, .ref (o)), (1, .int (x))] := hl
  have hL5 := hL.1
  have hS0 := hS
  have hms : 99 < 100 := by decide
  refine lv_iload_n F.x F.b dX1_holes_0 rfl (lv_at hl 1 rfl) ?_
  refine g_calli I (g_runS (n := 1) (As := [.int (x)]) (rest := []) F I (mt_isDay l G _ (x)   _) q1304 q1305 q56 q1306 hd_mt_isDay.2 ⟨Nat.le_of_ble_eq_true rfl, Nat.le_of_ble_eq_true rfl⟩ rfl rfl hl.1 rfl (lv_room (Nat.le_of_ble_eq_true rfl)) dX1_holes_1 ⟨by first | exact Nat.le_refl _ | decide, by first | exact Nat.le_refl _ | decide⟩) (fun r u_ H locs hp I => ?_)
  obtain rfl := hp
  refine z_ne (tgt := 10) F dX1_holes_4 (by decide) (fun c_4 => ?_) (fun c_4 => ?_)
  · obtain ⟨j, hj, rfl⟩ := wi_n (m := 7) (by decide) c_4
    have tj : (nI j).toNatClampNeg = j := nI_clamp (by omega)
    refine lv_aload_n F.x F.b dX1_holes_10 rfl (lv_at hl 0 rfl) ?_
    refine m_get (v := nI (L 5 0)) F I 5 (by decide) hS.1 q1160 dX1_holes_11 ?_
    refine n_if_ne (tgt := 20) F (by omega) dX1_holes_14 (by decide) (fun c_14 => ?_) (fun c_14 => ?_)
    · refine lv_aload_n F.x F.b dX1_holes_20 rfl (lv_at hl 0 rfl) ?_
      refine lv_iload_n F.x F.b dX1_holes_21 rfl (lv_at hl 1 rfl) ?_
      refine g_callv I (g_runV (n := 1) (ci := 0) (q0 := 0) (As := [.int (nI (j))]) (rest := []) F I (mt_makeWheel l G o q (S) (j) L 99 (by exact hL) (by exact hS) (by exact hms) (by omega) _) q1330 q1332 qs38 q56 q1333 hd_mt_makeWheel ⟨Nat.le_of_ble_eq_true rfl, Nat.le_of_ble_eq_true rfl⟩ rfl rfl rfl rfl hl.1 rfl (lv_room (Nat.le_of_ble_eq_true rfl)) dX1_holes_22 ⟨by first | exact Nat.le_refl _ | decide, by first | exact Nat.le_refl _ | decide⟩) (fun Z22 H locs hp I => ?_)
      have hq22 := hp
      refine lv_aload_n F.x F.b dX1_holes_25 rfl (lv_at hl 0 rfl) ?_
      refine m_get (v := (Z22.1 21)) F I 21 (by decide) rfl q1176 dX1_holes_26 ?_
      exact g_iret (u := Z22) F I (by exact ⟨by rw [aHole, if_pos c_4, if_neg c_14, tj]; exact hq22.2.2.2.symm, hq22.1⟩) dX1_holes_29 (by first | exact Nat.le_refl _ | decide) (by first | exact Nat.le_refl _ | decide)
    · refine lv_bipush (v := (-3)) F.x F.b dX1_holes_17 (by decide) ?_
      exact g_iret (u := S) F I (by exact ⟨by simp [aHole, *], mKeep.rf⟩) dX1_holes_19 (by first | exact Nat.le_refl _ | decide) (by first | exact Nat.le_refl _ | decide)
  · refine lv_bipush (v := (-2)) F.x F.b dX1_holes_7 (by decide) ?_
    exact g_iret (u := S) F I (by exact ⟨by simp [aHole, *], mKeep.rf⟩) dX1_holes_9 (by first | exact Nat.le_refl _ | decide) (by first | exact Nat.le_refl _ | decide)

theorem hd_mt_last : yX1_last.cls = RX1 ∧ yX1_last.cls ≠ "java/lang/invoke/MethodHandle" ∧ yX1_last.cls ≠ "java/lang/invoke/VarHandle" ∧ (parseMethodDescriptor yX1_last.desc).map (fun d => d.parameters.length) = some 1 := by decide +kernel
set_option maxHeartbeats 4000000 in
theorem mt_last (l : Launch) (G : gG) (o : Nat) (q : Nat → Nat) (S : MS) (x : Int32) (L : LD) (hL : LOk L) (hS : mLd S L 99) : gMi l yX1_last cX1_last 4 (some .int) ({ frames := 6, cells := 0, slots := 0, locals := 140 } : Room) G [.ref o, .int (x)] (mW G o q S) (fun S' => mW G o q S') (fun ρ S' => aLast L x = ρ ∧ mKeep S S') := by
  refine gMi_of (by decide) (Nat.le_of_ble_eq_true rfl) ?_
  intro p e s m below meth c ls A F I hl
  have hl : lv_has ls 4 [(0, .ref (o)), (1, .int (x))] := hl
  have hL5 := hL.1
  have hS0 := hS
  have hms : 99 < 100 := by decide
  refine lv_iload_n F.x F.b dX1_last_0 rfl (lv_at hl 1 rfl) ?_
  refine g_calli I (g_runS (n := 1) (As := [.int (x)]) (rest := []) F I (mt_isDay l G _ (x)   _) q1304 q1305 q56 q1306 hd_mt_isDay.2 ⟨Nat.le_of_ble_eq_true rfl, Nat.le_of_ble_eq_true rfl⟩ rfl rfl hl.1 rfl (lv_room (Nat.le_of_ble_eq_true rfl)) dX1_last_1 ⟨by first | exact Nat.le_refl _ | decide, by first | exact Nat.le_refl _ | decide⟩) (fun r u_ H locs hp I => ?_)
  obtain rfl := hp
  refine z_ne (tgt := 10) F dX1_last_4 (by decide) (fun c_4 => ?_) (fun c_4 => ?_)
  · obtain ⟨j, hj, rfl⟩ := wi_n (m := 7) (by decide) c_4
    have tj : (nI j).toNatClampNeg = j := nI_clamp (by omega)
    refine lv_aload_n F.x F.b dX1_last_10 rfl (lv_at hl 0 rfl) ?_
    refine m_get (v := nI (L 5 0)) F I 5 (by decide) hS.1 q1160 dX1_last_11 ?_
    refine n_if_ne (tgt := 20) F (by omega) dX1_last_14 (by decide) (fun c_14 => ?_) (fun c_14 => ?_)
    · refine lv_bipush (v := (-9)) F.x F.b dX1_last_20 (by decide) ?_
      refine lv_istore_n (lv' := [(2, .int ((-9))), (0, .ref (o)), (1, .int (nI (j)))]) F.x F.b dX1_last_22 rfl hl (by decide) rfl (fun ls hl => ?_)
      refine lv_iconst (v := nI (0)) F.x F.b dX1_last_23 (by decide) ?_
      refine lv_istore_n (lv' := [(3, .int (nI (0))), (2, .int ((-9))), (0, .ref (o)), (1, .int (nI (j)))]) F.x F.b dX1_last_24 rfl hl (by decide) rfl (fun ls hl => ?_)
      refine W_ind 25 (fun _ => []) (fun n_J => n_J) (fun n_J H locs ls => ∃ (d : Nat) (S1 : MS), n_J = j + 1 - d ∧ (d ≤ j + 1) ∧ (mKeep S S1) ∧  Iw G A s (mW G o q S1) H locs ∧ lv_has ls 4 [(0, .ref (o)), (1, .int (nI (j))), (2, .int (eN (lastN (fun d => pBy L 99 d j) d))), (3, .int (nI (d)))]) ?_ _ ⟨0, S, rfl, by omega, by exact mKeep.rf, I, lv_sub hl [2, 3, 1, 0] rfl⟩
      intro n25 H locs ls hJ ih25
      obtain ⟨d, S1, hn25, hd, hk1, I, hl⟩ := hJ
      have hS := mLd_keep hS0 hk1
      refine lv_iload_n F.x F.b dX1_last_25 rfl (lv_at hl 3 rfl) ?_
      refine lv_iload_n F.x F.b dX1_last_26 rfl (lv_at hl 1 rfl) ?_
      refine n_icmp_gt (tgt := 51) F (by omega) (by omega) dX1_last_27 (by decide) (fun c_27 => ?_) (fun c_27 => ?_)
      · refine lv_iload_n F.x F.b dX1_last_51 rfl (lv_at hl 2 rfl) ?_
        exact g_iret (u := S1) F I (by exact ⟨by rw [aLast, if_pos c_4, if_neg c_14, tj, show j + 1 = d by omega], hk1⟩) dX1_last_52 (by first | exact Nat.le_refl _ | decide) (by first | exact Nat.le_refl _ | decide)
      · refine lv_aload_n F.x F.b dX1_last_30 rfl (lv_at hl 0 rfl) ?_
        refine lv_iload_n F.x F.b dX1_last_31 rfl (lv_at hl 3 rfl) ?_
        refine lv_iload_n F.x F.b dX1_last_32 rfl (lv_at hl 1 rfl) ?_
        refine g_calli I (g_runV (n := 2) (ci := 0) (q0 := 0) (As := [.int (nI (d)), .int (nI (j))]) (rest := []) F I (mt_canBy l G o q (S1) (d) (j) L 99 (by exact hL) (by exact hS) (by exact hms) (by omega) (by omega) _) q1373 q1375 qs45 q56 q1376 hd_mt_canBy ⟨Nat.le_of_ble_eq_true rfl, Nat.le_of_ble_eq_true rfl⟩ rfl rfl rfl rfl hl.1 rfl (lv_room (Nat.le_of_ble_eq_true rfl)) dX1_last_33 ⟨by first | exact Nat.le_refl _ | decide, by first | exact Nat.le_refl _ | decide⟩) (fun r Z33 H locs hp I => ?_)
        obtain ⟨rfl, hq33⟩ := hp
        refine z_eq (tgt := 43) F dX1_last_36 (by decide) (fun c_36 => ?_) (fun c_36 => ?_)
        · refine lv_iload_n F.x F.b dX1_last_43 rfl (lv_at hl 2 rfl) ?_
          refine W.val (y := eN (lastN (fun d => pBy L 99 d j) (d + 1))) (by rw [lastN, if_neg (by simp [c_36])]) ?_
          refine lv_istore_n (lv' := [(2, .int (eN (lastN (fun d => pBy L 99 d j) (d + 1)))), (0, .ref (o)), (1, .int (nI (j))), (3, .int (nI (d)))]) F.x F.b dX1_last_44 rfl hl (by decide) rfl (fun ls hl => ?_)
          refine lv_iinc (v := nI ((d + 1))) (lv' := [(3, .int (nI ((d + 1)))), (2, .int (eN (lastN (fun d => pBy L 99 d j) (d + 1)))), (0, .ref (o)), (1, .int (nI (j)))]) F.x F.b dX1_last_45 hl (k := 3) rfl (nI_1 (d)) (by decide) rfl (fun ls hl => ?_)
          refine lv_goto (tgt := 25) F.x F.b dX1_last_48 (by decide) ?_
          exact ih25 _ _ _ _ (by omega) ⟨d + 1, Z33, rfl, by omega, by exact hk1.tr hq33, I, lv_sub hl [2, 3, 1, 0] rfl⟩
        · refine lv_iload_n F.x F.b dX1_last_39 rfl (lv_at hl 3 rfl) ?_
          refine lv_goto (tgt := 44) F.x F.b dX1_last_40 (by decide) ?_
          refine W.val (y := eN (lastN (fun d => pBy L 99 d j) (d + 1))) (by rw [lastN, if_pos c_36, eN_i (by omega)]) ?_
          refine lv_istore_n (lv' := [(2, .int (eN (lastN (fun d => pBy L 99 d j) (d + 1)))), (0, .ref (o)), (1, .int (nI (j))), (3, .int (nI (d)))]) F.x F.b dX1_last_44 rfl hl (by decide) rfl (fun ls hl => ?_)
          refine lv_iinc (v := nI ((d + 1))) (lv' := [(3, .int (nI ((d + 1)))), (2, .int (eN (lastN (fun d => pBy L 99 d j) (d + 1)))), (0, .ref (o)), (1, .int (nI (j)))]) F.x F.b dX1_last_45 hl (k := 3) rfl (nI_1 (d)) (by decide) rfl (fun ls hl => ?_)
          refine lv_goto (tgt := 25) F.x F.b dX1_last_48 (by decide) ?_
          exact ih25 _ _ _ _ (by omega) ⟨d + 1, Z33, rfl, by omega, by exact hk1.tr hq33, I, lv_sub hl [2, 3, 1, 0] rfl⟩
    · refine lv_bipush (v := (-3)) F.x F.b dX1_last_17 (by decide) ?_
      exact g_iret (u := S) F I (by exact ⟨by simp [aLast, *], mKeep.rf⟩) dX1_last_19 (by first | exact Nat.le_refl _ | decide) (by first | exact Nat.le_refl _ | decide)
  · refine lv_bipush (v := (-2)) F.x F.b dX1_last_7 (by decide) ?_
    exact g_iret (u := S) F I (by exact ⟨by simp [aLast, *], mKeep.rf⟩) dX1_last_9 (by first | exact Nat.le_refl _ | decide) (by first | exact Nat.le_refl _ | decide)


/-- but for what valleys 1 and 2 give, S1 is as S -/
def mK7 (S S1 : MS) : Prop := mKeep S (S1.1, va_up S1.2 7 (S.2 7)) ∧ ∀ j, j ≠ 1 → j ≠ 2 → S1.2 7 j = S.2 7 j
theorem mK7.rf {S : MS} : mK7 S S := ⟨by exact ⟨rfl, rfl, rfl, rfl, rfl, rfl, rfl, rfl, rfl, rfl, rfl, rfl, rfl, rfl, rfl, rfl, rfl⟩, fun _ _ _ => rfl⟩
theorem mK7.st {S S1 : MS} (h : mK7 S S1) (a b : Int32) : mK7 S (S1.1, va_up S1.2 7 (upd (upd (S1.2 7) 1 a) 2 b)) := by
  refine ⟨h.1, fun j h1 h2 => ?_⟩
  show upd (upd (S1.2 7) 1 a) 2 b j = S.2 7 j
  unfold upd; rw [if_neg h2, if_neg h1]; exact h.2 j h1 h2
theorem mK7.keep {S S1 S2 : MS} (h : mK7 S S1) (k : mKeep S1 S2) : mK7 S S2 := by
  obtain ⟨b1, b2, b3, b4, b5, b6, b7, b8, b9, b10, b11, b12, b13, b14, b15, b16, b17⟩ := k
  refine ⟨h.1.tr ⟨b1, b2, b3, b4, b5, b6, b7, b8, b9, rfl, b11, b12, b13, b14, b15, b16, b17⟩, fun j h1 h2 => by rw [b10]; exact h.2 j h1 h2⟩
theorem mK7.ld {S S1 : MS} {L : LD} {ms a b : Nat} (h : mK7 S S1) (hS : mLd S L ms) : mLd (S1.1, va_up S1.2 7 (upd (upd (S1.2 7) 1 (nI a)) 2 (nI b))) (l12 L a b) ms := by
  have h0 := mLd_keep hS h.1
  refine ⟨h0.1, h0.2.1, h0.2.2.1, h0.2.2.2.1, fun v hv => ?_⟩
  show upd (upd (S1.2 7) 1 (nI a)) 2 (nI b) v = nI (va_up (va_up (L 7) 1 a) 2 b v)
  unfold upd va_up
  split
  · rfl
  · split
    · rfl
    · rename_i n2 n1
      exact (h.2 v n1 n2).trans (hS.2.2.2.2 v hv)
theorem mK7.done {S S1 : MS} {L : LD} {ms : Nat} (h : mK7 S S1) (hS : mLd S L ms) : mKeep S (S1.1, va_up S1.2 7 (upd (upd (S1.2 7) 1 (nI (L 7 1))) 2 (nI (L 7 2)))) := by
  have e : upd (upd (S1.2 7) 1 (nI (L 7 1))) 2 (nI (L 7 2)) = S.2 7 := by
    funext j
    unfold upd
    split
    · rename_i e; rw [e]; exact (hS.2.2.2.2 2 (by omega)).symm
    · split
      · rename_i e; rw [e]; exact (hS.2.2.2.2 1 (by omega)).symm
      · rename_i n2 n1; exact h.2 j n1 n2
  rw [e]; exact h.1
theorem LOk.l12 {L : LD} (h : LOk L) {a b : Nat} (ha : a ≤ 255) (hb : b ≤ 255) : LOk (l12 L a b) := (h.up7 ha).up7 hb
theorem clr_le (a k : Nat) : clr a k ≤ a := by
  unfold clr; split
  · exact Nat.sub_le _ _
  · exact Nat.le_refl _
theorem clr_raw : ∀ a, a < 256 → ∀ k, k < 9 → (nI a &&& ((1 <<< (nI k &&& 31)) ^^^ (-1))) = nI (clr a k) := by decide +kernel
theorem sfN_f {L : LD} {d x k : Nat} (h : sfN L d x k = false) : ∀ n, k ≤ n → sfN L d x n = false
  | 0, hk => by rw [show k = 0 by omega] at h; exact h
  | n + 1, hk => by
    rcases Nat.lt_or_ge k (n + 1) with h1 | h1
    · rw [sfN, sfN_f h n (by omega)]; rfl
    · rw [show n + 1 = k by omega]; exact h

theorem hd_mt_isSafe : yX1_isSafe.cls = RX1 ∧ yX1_isSafe.cls ≠ "java/lang/invoke/MethodHandle" ∧ yX1_isSafe.cls ≠ "java/lang/invoke/VarHandle" ∧ (parseMethodDescriptor yX1_isSafe.desc).map (fun d => d.parameters.length) = some 2 := by decide +kernel
set_option maxHeartbeats 4000000 in
theorem mt_isSafe (l : Launch) (G : gG) (o : Nat) (q : Nat → Nat) (S : MS) (d : Nat) (x : Nat) (L : LD) (hL : LOk L) (hS : mLd S L 99) (hd : d < 8) (hx : x < 8) : gMi l yX1_isSafe cX1_isSafe 7 (some .boolean) ({ frames := 6, cells := 0, slots := 0, locals := 140 } : Room) G [.ref o, .int (nI (d)), .int (nI (x))] (mW G o q S) (fun S' => mW G o q S') (fun ρ S' => bI (sfN L d x 81) = ρ ∧ mKeep S S') := by
  refine gMi_of (by decide) (Nat.le_of_ble_eq_true rfl) ?_
  intro p e s m below meth c ls A F I hl
  have hl : lv_has ls 7 [(0, .ref (o)), (1, .int (nI (d))), (2, .int (nI (x)))] := hl
  have hL5 := hL.1
  have hS0 := hS
  have hms : 99 < 100 := by decide
  have h71 := hL.2.2.2 1 (by omega)
  have h72 := hL.2.2.2 2 (by omega)
  have c1 := fun k => clr_le (L 7 1) k
  have c2 := fun k => clr_le (L 7 2) k
  refine lv_aload_n F.x F.b dX1_isSafe_0 rfl (lv_at hl 0 rfl) ?_
  refine m_geta F I 7 (by decide) q1162 dX1_isSafe_1 ?_
  refine lv_iconst (v := nI (1)) F.x F.b dX1_isSafe_4 (by decide) ?_
  refine m_ld (v := ((S.2 7) (1))) F I 7 (by decide) (show 1 < 3 by omega) rfl dX1_isSafe_5 ?_
  refine W.val (y := nI (L 7 1)) (by exact hS.2.2.2.2 1 (by omega)) ?_
  refine lv_istore_n (lv' := [(3, .int (nI (L 7 1))), (0, .ref (o)), (1, .int (nI (d))), (2, .int (nI (x)))]) F.x F.b dX1_isSafe_6 rfl hl (by decide) rfl (fun ls hl => ?_)
  refine lv_aload_n F.x F.b dX1_isSafe_7 rfl (lv_at hl 1 rfl) ?_
  refine m_geta F I 7 (by decide) q1162 dX1_isSafe_8 ?_
  refine lv_iconst (v := nI (2)) F.x F.b dX1_isSafe_11 (by decide) ?_
  refine m_ld (v := ((S.2 7) (2))) F I 7 (by decide) (show 2 < 3 by omega) rfl dX1_isSafe_12 ?_
  refine W.val (y := nI (L 7 2)) (by exact hS.2.2.2.2 2 (by omega)) ?_
  refine lv_istore (lv' := [(4, .int (nI (L 7 2))), (3, .int (nI (L 7 1))), (0, .ref (o)), (1, .int (nI (d))), (2, .int (nI (x)))]) F.x F.b dX1_isSafe_13 hl (by decide) rfl (fun ls hl => ?_)
  refine lv_iconst (v := nI (1)) F.x F.b dX1_isSafe_15 (by decide) ?_
  refine lv_istore (lv' := [(5, .int (nI (1))), (4, .int (nI (L 7 2))), (3, .int (nI (L 7 1))), (0, .ref (o)), (1, .int (nI (d))), (2, .int (nI (x)))]) F.x F.b dX1_isSafe_16 hl (by decide) rfl (fun ls hl => ?_)
  refine lv_iconst (v := nI (0)) F.x F.b dX1_isSafe_18 (by decide) ?_
  refine lv_istore (lv' := [(6, .int (nI (0))), (5, .int (nI (1))), (4, .int (nI (L 7 2))), (3, .int (nI (L 7 1))), (0, .ref (o)), (1, .int (nI (d))), (2, .int (nI (x)))]) F.x F.b dX1_isSafe_19 hl (by decide) rfl (fun ls hl => ?_)
  refine W_ind 21 (fun _ => []) (fun n_J => n_J) (fun n_J H locs ls => ∃ (k : Nat) (S1 : MS), n_J = 81 - k ∧ (k ≤ 81) ∧ (mK7 S S1) ∧  Iw G A s (mW G o q S1) H locs ∧ lv_has ls 7 [(0, .ref (o)), (1, .int (nI (d))), (2, .int (nI (x))), (3, .int (nI (L 7 1))), (4, .int (nI (L 7 2))), (5, .int (bI (sfN L d x k))), (6, .int (nI (k)))]) ?_ _ ⟨0, S, rfl, by omega, by exact mK7.rf, I, lv_sub hl [4, 5, 6, 3, 2, 1, 0] rfl⟩
  intro n21 H locs ls hJ ih21
  obtain ⟨k, S1, hn21, hk, h7, I, hl⟩ := hJ
  refine lv_iload F.x F.b dX1_isSafe_21 (lv_at hl 6 rfl) ?_
  refine lv_bipush (v := nI (81)) F.x F.b dX1_isSafe_23 (by decide) ?_
  refine n_icmp_ge (tgt := 82) F (by omega) (by omega) dX1_isSafe_25 (by decide) (fun c_25 => ?_) (fun c_25 => ?_)
  · have hi81 : bI (sfN L d x 81) = bI (sfN L d x k) := by first | rw [show k = 81 by omega] | rw [c_30, sfN_f c_30 81 (by omega)]
    refine lv_aload_n F.x F.b dX1_isSafe_82 rfl (lv_at hl 0 rfl) ?_
    refine m_geta F I 7 (by decide) q1162 dX1_isSafe_83 ?_
    refine lv_iconst (v := nI (1)) F.x F.b dX1_isSafe_86 (by decide) ?_
    refine lv_iload_n F.x F.b dX1_isSafe_87 rfl (lv_at hl 3 rfl) ?_
    refine m_st F I 7 (by decide) (show 1 < 3 by omega) dX1_isSafe_88 (fun H locs (I : Iw G A s (mW G o q (S1.1, va_up S1.2 7 (upd (S1.2 7) (1) (nI (L 7 1))))) H locs) => ?_)
    refine lv_aload_n F.x F.b dX1_isSafe_89 rfl (lv_at hl 0 rfl) ?_
    refine m_geta F I 7 (by decide) q1162 dX1_isSafe_90 ?_
    refine lv_iconst (v := nI (2)) F.x F.b dX1_isSafe_93 (by decide) ?_
    refine lv_iload F.x F.b dX1_isSafe_94 (lv_at hl 4 rfl) ?_
    refine m_st F I 7 (by decide) (show 2 < 3 by omega) dX1_isSafe_96 (fun H locs (I : Iw G A s (mW G o q (S1.1, va_up (va_up S1.2 7 (upd (S1.2 7) (1) (nI (L 7 1)))) 7 (upd (upd (S1.2 7) (1) (nI (L 7 1))) (2) (nI (L 7 2))))) H locs) => ?_)
    refine lv_iload F.x F.b dX1_isSafe_97 (lv_at hl 5 rfl) ?_
    exact g_zret (u := (S1.1, va_up (va_up S1.2 7 (upd (S1.2 7) (1) (nI (L 7 1)))) 7 (upd (upd (S1.2 7) (1) (nI (L 7 1))) (2) (nI (L 7 2))))) F I (by first | exact bI_01 _ | exact Or.inl rfl | exact Or.inr rfl) (by exact ⟨hi81, h7.done hS⟩) dX1_isSafe_99 (by first | exact Nat.le_refl _ | decide) (by first | exact Nat.le_refl _ | decide)
  · refine lv_iload F.x F.b dX1_isSafe_28 (lv_at hl 5 rfl) ?_
    refine z_eq (tgt := 82) F dX1_isSafe_30 (by decide) (fun c_30 => ?_) (fun c_30 => ?_)
    · have hi81 : bI (sfN L d x 81) = bI (sfN L d x k) := by first | rw [show k = 81 by omega] | rw [c_30, sfN_f c_30 81 (by omega)]
      refine lv_aload_n F.x F.b dX1_isSafe_82 rfl (lv_at hl 0 rfl) ?_
      refine m_geta F I 7 (by decide) q1162 dX1_isSafe_83 ?_
      refine lv_iconst (v := nI (1)) F.x F.b dX1_isSafe_86 (by decide) ?_
      refine lv_iload_n F.x F.b dX1_isSafe_87 rfl (lv_at hl 3 rfl) ?_
      refine m_st F I 7 (by decide) (show 1 < 3 by omega) dX1_isSafe_88 (fun H locs (I : Iw G A s (mW G o q (S1.1, va_up S1.2 7 (upd (S1.2 7) (1) (nI (L 7 1))))) H locs) => ?_)
      refine lv_aload_n F.x F.b dX1_isSafe_89 rfl (lv_at hl 0 rfl) ?_
      refine m_geta F I 7 (by decide) q1162 dX1_isSafe_90 ?_
      refine lv_iconst (v := nI (2)) F.x F.b dX1_isSafe_93 (by decide) ?_
      refine lv_iload F.x F.b dX1_isSafe_94 (lv_at hl 4 rfl) ?_
      refine m_st F I 7 (by decide) (show 2 < 3 by omega) dX1_isSafe_96 (fun H locs (I : Iw G A s (mW G o q (S1.1, va_up (va_up S1.2 7 (upd (S1.2 7) (1) (nI (L 7 1)))) 7 (upd (upd (S1.2 7) (1) (nI (L 7 1))) (2) (nI (L 7 2))))) H locs) => ?_)
      refine lv_iload F.x F.b dX1_isSafe_97 (lv_at hl 5 rfl) ?_
      exact g_zret (u := (S1.1, va_up (va_up S1.2 7 (upd (S1.2 7) (1) (nI (L 7 1)))) 7 (upd (upd (S1.2 7) (1) (nI (L 7 1))) (2) (nI (L 7 2))))) F I (by first | exact bI_01 _ | exact Or.inl rfl | exact Or.inr rfl) (by exact ⟨hi81, h7.done hS⟩) dX1_isSafe_99 (by first | exact Nat.le_refl _ | decide) (by first | exact Nat.le_refl _ | decide)
    · refine lv_aload_n F.x F.b dX1_isSafe_33 rfl (lv_at hl 0 rfl) ?_
      refine m_geta F I 7 (by decide) q1162 dX1_isSafe_34 ?_
      refine lv_iconst (v := nI (1)) F.x F.b dX1_isSafe_37 (by decide) ?_
      refine lv_iload_n F.x F.b dX1_isSafe_38 rfl (lv_at hl 3 rfl) ?_
      refine lv_iconst (v := nI (1)) F.x F.b dX1_isSafe_39 (by decide) ?_
      refine lv_iload F.x F.b dX1_isSafe_40 (lv_at hl 6 rfl) ?_
      refine lv_bipush (v := nI (9)) F.x F.b dX1_isSafe_42 (by decide) ?_
      refine n_idiv F dX1_isSafe_44 (by omega) (by omega) (by omega) ?_
      refine lv_ishl (x := 1) (y := (nI ((k / 9)))) F.x F.b dX1_isSafe_45 ?_
      refine lv_iconst (v := (-1)) F.x F.b dX1_isSafe_46 (by decide) ?_
      refine lv_ixor (x := (1 <<< ((nI ((k / 9))) &&& 31))) (y := (-1)) F.x F.b dX1_isSafe_47 ?_
      refine lv_iand (x := (nI (L 7 1))) (y := ((1 <<< ((nI ((k / 9))) &&& 31)) ^^^ (-1))) F.x F.b dX1_isSafe_48 ?_
      refine W.val (y := nI (clr (L 7 1) (k / 9))) (by exact clr_raw (L 7 1) (by omega) (k / 9) (by omega)) ?_
      refine m_st F I 7 (by decide) (show 1 < 3 by omega) dX1_isSafe_49 (fun H locs (I : Iw G A s (mW G o q (S1.1, va_up S1.2 7 (upd (S1.2 7) (1) (nI (clr (L 7 1) (k / 9)))))) H locs) => ?_)
      refine lv_aload_n F.x F.b dX1_isSafe_50 rfl (lv_at hl 0 rfl) ?_
      refine m_geta F I 7 (by decide) q1162 dX1_isSafe_51 ?_
      refine lv_iconst (v := nI (2)) F.x F.b dX1_isSafe_54 (by decide) ?_
      refine lv_iload F.x F.b dX1_isSafe_55 (lv_at hl 4 rfl) ?_
      refine lv_iconst (v := nI (1)) F.x F.b dX1_isSafe_57 (by decide) ?_
      refine lv_iload F.x F.b dX1_isSafe_58 (lv_at hl 6 rfl) ?_
      refine lv_bipush (v := nI (9)) F.x F.b dX1_isSafe_60 (by decide) ?_
      refine n_irem F dX1_isSafe_62 (by omega) (by omega) (by omega) ?_
      refine lv_ishl (x := 1) (y := (nI ((k % 9)))) F.x F.b dX1_isSafe_63 ?_
      refine lv_iconst (v := (-1)) F.x F.b dX1_isSafe_64 (by decide) ?_
      refine lv_ixor (x := (1 <<< ((nI ((k % 9))) &&& 31))) (y := (-1)) F.x F.b dX1_isSafe_65 ?_
      refine lv_iand (x := (nI (L 7 2))) (y := ((1 <<< ((nI ((k % 9))) &&& 31)) ^^^ (-1))) F.x F.b dX1_isSafe_66 ?_
      refine W.val (y := nI (clr (L 7 2) (k % 9))) (by exact clr_raw (L 7 2) (by omega) (k % 9) (by omega)) ?_
      refine m_st F I 7 (by decide) (show 2 < 3 by omega) dX1_isSafe_67 (fun H locs (I : Iw G A s (mW G o q (S1.1, va_up (va_up S1.2 7 (upd (S1.2 7) (1) (nI (clr (L 7 1) (k / 9))))) 7 (upd (upd (S1.2 7) (1) (nI (clr (L 7 1) (k / 9)))) (2) (nI (clr (L 7 2) (k % 9)))))) H locs) => ?_)
      have hS9 := h7.ld (a := clr (L 7 1) (k / 9)) (b := clr (L 7 2) (k % 9)) hS
      have hL9 := hL.l12 (Nat.le_trans (c1 (k / 9)) h71) (Nat.le_trans (c2 (k % 9)) h72)
      refine lv_aload_n F.x F.b dX1_isSafe_68 rfl (lv_at hl 0 rfl) ?_
      refine lv_iload_n F.x F.b dX1_isSafe_69 rfl (lv_at hl 1 rfl) ?_
      refine lv_iload_n F.x F.b dX1_isSafe_70 rfl (lv_at hl 2 rfl) ?_
      refine g_calli I (g_runV (n := 2) (ci := 0) (q0 := 0) (As := [.int (nI (d)), .int (nI (x))]) (rest := []) F I (mt_canBy l G o q ((S1.1, va_up (va_up S1.2 7 (upd (S1.2 7) (1) (nI (clr (L 7 1) (k / 9))))) 7 (upd (upd (S1.2 7) (1) (nI (clr (L 7 1) (k / 9)))) (2) (nI (clr (L 7 2) (k % 9)))))) (d) (x) (l12 L (clr (L 7 1) (k / 9)) (clr (L 7 2) (k % 9))) 99 (by exact hL9) (by exact hS9) (by exact hms) (by omega) (by omega) _) q1373 q1375 qs45 q56 q1376 hd_mt_canBy ⟨Nat.le_of_ble_eq_true rfl, Nat.le_of_ble_eq_true rfl⟩ rfl rfl rfl rfl hl.1 rfl (lv_room (Nat.le_of_ble_eq_true rfl)) dX1_isSafe_71 ⟨by first | exact Nat.le_refl _ | decide, by first | exact Nat.le_refl _ | decide⟩) (fun r Z71 H locs hp I => ?_)
      obtain ⟨rfl, hq71⟩ := hp
      refine W.val (y := bI (sfN L d x (k + 1))) (by rw [sfN, c_30]; simp) ?_
      refine lv_istore (lv' := [(5, .int (bI (sfN L d x (k + 1)))), (0, .ref (o)), (1, .int (nI (d))), (2, .int (nI (x))), (3, .int (nI (L 7 1))), (4, .int (nI (L 7 2))), (6, .int (nI (k)))]) F.x F.b dX1_isSafe_74 hl (by decide) rfl (fun ls hl => ?_)
      refine lv_iinc (v := nI ((k + 1))) (lv' := [(6, .int (nI ((k + 1)))), (5, .int (bI (sfN L d x (k + 1)))), (0, .ref (o)), (1, .int (nI (d))), (2, .int (nI (x))), (3, .int (nI (L 7 1))), (4, .int (nI (L 7 2)))]) F.x F.b dX1_isSafe_76 hl (k := 6) rfl (nI_1 (k)) (by decide) rfl (fun ls hl => ?_)
      refine lv_goto (tgt := 21) F.x F.b dX1_isSafe_79 (by decide) ?_
      exact ih21 _ _ _ _ (by omega) ⟨k + 1, Z71, rfl, by omega, by exact (h7.st _ _).keep hq71, I, lv_sub hl [2, 3, 4, 5, 6, 1, 0] rfl⟩

theorem hd_mt_safe : yX1_safe.cls = RX1 ∧ yX1_safe.cls ≠ "java/lang/invoke/MethodHandle" ∧ yX1_safe.cls ≠ "java/lang/invoke/VarHandle" ∧ (parseMethodDescriptor yX1_safe.desc).map (fun d => d.parameters.length) = some 1 := by decide +kernel
set_option maxHeartbeats 4000000 in
theorem mt_safe (l : Launch) (G : gG) (o : Nat) (q : Nat → Nat) (S : MS) (x : Int32) (L : LD) (hL : LOk L) (hS : mLd S L 99) : gMi l yX1_safe cX1_safe 4 (some .int) ({ frames := 7, cells := 0, slots := 0, locals := 166 } : Room) G [.ref o, .int (x)] (mW G o q S) (fun S' => mW G o q S') (fun ρ S' => aSafe L x = ρ ∧ mKeep S S') := by
  refine gMi_of (by decide) (Nat.le_of_ble_eq_true rfl) ?_
  intro p e s m below meth c ls A F I hl
  have hl : lv_has ls 4 [(0, .ref (o)), (1, .int (x))] := hl
  have hL5 := hL.1
  have hS0 := hS
  have hms : 99 < 100 := by decide
  refine lv_iload_n F.x F.b dX1_safe_0 rfl (lv_at hl 1 rfl) ?_
  refine g_calli I (g_runS (n := 1) (As := [.int (x)]) (rest := []) F I (mt_isDay l G _ (x)   _) q1304 q1305 q56 q1306 hd_mt_isDay.2 ⟨Nat.le_of_ble_eq_true rfl, Nat.le_of_ble_eq_true rfl⟩ rfl rfl hl.1 rfl (lv_room (Nat.le_of_ble_eq_true rfl)) dX1_safe_1 ⟨by first | exact Nat.le_refl _ | decide, by first | exact Nat.le_refl _ | decide⟩) (fun r u_ H locs hp I => ?_)
  obtain rfl := hp
  refine z_ne (tgt := 10) F dX1_safe_4 (by decide) (fun c_4 => ?_) (fun c_4 => ?_)
  · obtain ⟨j, hj, rfl⟩ := wi_n (m := 7) (by decide) c_4
    have tj : (nI j).toNatClampNeg = j := nI_clamp (by omega)
    refine lv_aload_n F.x F.b dX1_safe_10 rfl (lv_at hl 0 rfl) ?_
    refine m_get (v := nI (L 5 0)) F I 5 (by decide) hS.1 q1160 dX1_safe_11 ?_
    refine n_if_ne (tgt := 20) F (by omega) dX1_safe_14 (by decide) (fun c_14 => ?_) (fun c_14 => ?_)
    · refine lv_bipush (v := (-9)) F.x F.b dX1_safe_20 (by decide) ?_
      refine lv_istore_n (lv' := [(2, .int ((-9))), (0, .ref (o)), (1, .int (nI (j)))]) F.x F.b dX1_safe_22 rfl hl (by decide) rfl (fun ls hl => ?_)
      refine lv_iconst (v := nI (0)) F.x F.b dX1_safe_23 (by decide) ?_
      refine lv_istore_n (lv' := [(3, .int (nI (0))), (2, .int ((-9))), (0, .ref (o)), (1, .int (nI (j)))]) F.x F.b dX1_safe_24 rfl hl (by decide) rfl (fun ls hl => ?_)
      refine W_ind 25 (fun _ => []) (fun n_J => n_J) (fun n_J H locs ls => ∃ (d : Nat) (S1 : MS), n_J = j + 1 - d ∧ (d ≤ j + 1) ∧ (mKeep S S1) ∧  Iw G A s (mW G o q S1) H locs ∧ lv_has ls 4 [(0, .ref (o)), (1, .int (nI (j))), (2, .int (eN (lastN (fun d => sfN L d j 81) d))), (3, .int (nI (d)))]) ?_ _ ⟨0, S, rfl, by omega, by exact mKeep.rf, I, lv_sub hl [2, 3, 1, 0] rfl⟩
      intro n25 H locs ls hJ ih25
      obtain ⟨d, S1, hn25, hd, hk1, I, hl⟩ := hJ
      have hS := mLd_keep hS0 hk1
      refine lv_iload_n F.x F.b dX1_safe_25 rfl (lv_at hl 3 rfl) ?_
      refine lv_iload_n F.x F.b dX1_safe_26 rfl (lv_at hl 1 rfl) ?_
      refine n_icmp_gt (tgt := 51) F (by omega) (by omega) dX1_safe_27 (by decide) (fun c_27 => ?_) (fun c_27 => ?_)
      · refine lv_iload_n F.x F.b dX1_safe_51 rfl (lv_at hl 2 rfl) ?_
        exact g_iret (u := S1) F I (by exact ⟨by rw [aSafe, if_pos c_4, if_neg c_14, tj, show j + 1 = d by omega], hk1⟩) dX1_safe_52 (by first | exact Nat.le_refl _ | decide) (by first | exact Nat.le_refl _ | decide)
      · refine lv_aload_n F.x F.b dX1_safe_30 rfl (lv_at hl 0 rfl) ?_
        refine lv_iload_n F.x F.b dX1_safe_31 rfl (lv_at hl 3 rfl) ?_
        refine lv_iload_n F.x F.b dX1_safe_32 rfl (lv_at hl 1 rfl) ?_
        refine g_calli I (g_runV (n := 2) (ci := 0) (q0 := 0) (As := [.int (nI (d)), .int (nI (j))]) (rest := []) F I (mt_isSafe l G o q (S1) (d) (j) L (by exact hL) (by exact hS) (by omega) (by omega) _) q1381 q1383 qs46 q56 q1384 hd_mt_isSafe ⟨Nat.le_of_ble_eq_true rfl, Nat.le_of_ble_eq_true rfl⟩ rfl rfl rfl rfl hl.1 rfl (lv_room (Nat.le_of_ble_eq_true rfl)) dX1_safe_33 ⟨by first | exact Nat.le_refl _ | decide, by first | exact Nat.le_refl _ | decide⟩) (fun r Z33 H locs hp I => ?_)
        obtain ⟨rfl, hq33⟩ := hp
        refine z_eq (tgt := 43) F dX1_safe_36 (by decide) (fun c_36 => ?_) (fun c_36 => ?_)
        · refine lv_iload_n F.x F.b dX1_safe_43 rfl (lv_at hl 2 rfl) ?_
          refine W.val (y := eN (lastN (fun d => sfN L d j 81) (d + 1))) (by rw [lastN, if_neg (by simp [c_36])]) ?_
          refine lv_istore_n (lv' := [(2, .int (eN (lastN (fun d => sfN L d j 81) (d + 1)))), (0, .ref (o)), (1, .int (nI (j))), (3, .int (nI (d)))]) F.x F.b dX1_safe_44 rfl hl (by decide) rfl (fun ls hl => ?_)
          refine lv_iinc (v := nI ((d + 1))) (lv' := [(3, .int (nI ((d + 1)))), (2, .int (eN (lastN (fun d => sfN L d j 81) (d + 1)))), (0, .ref (o)), (1, .int (nI (j)))]) F.x F.b dX1_safe_45 hl (k := 3) rfl (nI_1 (d)) (by decide) rfl (fun ls hl => ?_)
          refine lv_goto (tgt := 25) F.x F.b dX1_safe_48 (by decide) ?_
          exact ih25 _ _ _ _ (by omega) ⟨d + 1, Z33, rfl, by omega, by exact hk1.tr hq33, I, lv_sub hl [2, 3, 1, 0] rfl⟩
        · refine lv_iload_n F.x F.b dX1_safe_39 rfl (lv_at hl 3 rfl) ?_
          refine lv_goto (tgt := 44) F.x F.b dX1_safe_40 (by decide) ?_
          refine W.val (y := eN (lastN (fun d => sfN L d j 81) (d + 1))) (by rw [lastN, if_pos c_36, eN_i (by omega)]) ?_
          refine lv_istore_n (lv' := [(2, .int (eN (lastN (fun d => sfN L d j 81) (d + 1)))), (0, .ref (o)), (1, .int (nI (j))), (3, .int (nI (d)))]) F.x F.b dX1_safe_44 rfl hl (by decide) rfl (fun ls hl => ?_)
          refine lv_iinc (v := nI ((d + 1))) (lv' := [(3, .int (nI ((d + 1)))), (2, .int (eN (lastN (fun d => sfN L d j 81) (d + 1)))), (0, .ref (o)), (1, .int (nI (j)))]) F.x F.b dX1_safe_45 hl (k := 3) rfl (nI_1 (d)) (by decide) rfl (fun ls hl => ?_)
          refine lv_goto (tgt := 25) F.x F.b dX1_safe_48 (by decide) ?_
          exact ih25 _ _ _ _ (by omega) ⟨d + 1, Z33, rfl, by omega, by exact hk1.tr hq33, I, lv_sub hl [2, 3, 1, 0] rfl⟩
    · refine lv_bipush (v := (-3)) F.x F.b dX1_safe_17 (by decide) ?_
      exact g_iret (u := S) F I (by exact ⟨by simp [aSafe, *], mKeep.rf⟩) dX1_safe_19 (by first | exact Nat.le_refl _ | decide) (by first | exact Nat.le_refl _ | decide)
  · refine lv_bipush (v := (-2)) F.x F.b dX1_safe_7 (by decide) ?_
    exact g_iret (u := S) F I (by exact ⟨by simp [aSafe, *], mKeep.rf⟩) dX1_safe_9 (by first | exact Nat.le_refl _ | decide) (by first | exact Nat.le_refl _ | decide)


theorem mLd_miss {S S1 : MS} {L : LD} {p : Nat} (hS : mLd S L 99) (h : mKeep S (va_up S1.1 13 (S.1 13), S1.2)) (hp : p ≠ 99) : mLd (va_up S1.1 13 (nI p), S1.2) L p := by
  have h0 := mLd_keep hS h
  exact ⟨h0.1, (eN_i hp).symm, h0.2.2⟩
theorem miss_keep {S S1 S2 : MS} {x : Int32} (h : mKeep S (va_up S1.1 13 (S.1 13), S1.2)) (k : mKeep (va_up S1.1 13 x, S1.2) S2) : mKeep S (va_up S2.1 13 (S.1 13), S2.2) := by
  obtain ⟨b1, b2, b3, b4, b5, b6, b7, b8, b9, b10, b11, b12, b13, b14, b15, b16, b17⟩ := k
  exact h.tr ⟨b1, b2, b3, rfl, b5, b6, b7, b8, b9, b10, b11, b12, b13, b14, b15, b16, b17⟩

theorem hd_mt_hangs : yX1_hangs.cls = RX1 ∧ yX1_hangs.cls ≠ "java/lang/invoke/MethodHandle" ∧ yX1_hangs.cls ≠ "java/lang/invoke/VarHandle" ∧ (parseMethodDescriptor yX1_hangs.desc).map (fun d => d.parameters.length) = some 2 := by decide +kernel
set_option maxHeartbeats 4000000 in
theorem mt_hangs (l : Launch) (G : gG) (o : Nat) (q : Nat → Nat) (S : MS) (x : Int32) (v : Int32) (L : LD) (hL : LOk L) (hS : mLd S L 99) : gMi l yX1_hangs cX1_hangs 5 (some .int) ({ frames := 6, cells := 0, slots := 0, locals := 140 } : Room) G [.ref o, .int (x), .int (v)] (mW G o q S) (fun S' => mW G o q S') (fun ρ S' => aHang L x v = ρ ∧ mKeep S S') := by
  refine gMi_of (by decide) (Nat.le_of_ble_eq_true rfl) ?_
  intro p e s m below meth c ls A F I hl
  have hl : lv_has ls 5 [(0, .ref (o)), (1, .int (x)), (2, .int (v))] := hl
  have hL5 := hL.1
  have hS0 := hS
  have hms : 99 < 100 := by decide
  refine lv_iload_n F.x F.b dX1_hangs_0 rfl (lv_at hl 1 rfl) ?_
  refine g_calli I (g_runS (n := 1) (As := [.int (x)]) (rest := []) F I (mt_isDay l G _ (x)   _) q1304 q1305 q56 q1306 hd_mt_isDay.2 ⟨Nat.le_of_ble_eq_true rfl, Nat.le_of_ble_eq_true rfl⟩ rfl rfl hl.1 rfl (lv_room (Nat.le_of_ble_eq_true rfl)) dX1_hangs_1 ⟨by first | exact Nat.le_refl _ | decide, by first | exact Nat.le_refl _ | decide⟩) (fun r u_ H locs hp I => ?_)
  obtain rfl := hp
  refine z_eq (tgt := 14) F dX1_hangs_4 (by decide) (fun c_4 => ?_) (fun c_4 => ?_)
  · refine lv_bipush (v := (-2)) F.x F.b dX1_hangs_14 (by decide) ?_
    exact g_iret (u := S) F I (by exact ⟨by simp [aHang, *], mKeep.rf⟩) dX1_hangs_16 (by first | exact Nat.le_refl _ | decide) (by first | exact Nat.le_refl _ | decide)
  · obtain ⟨j, hj, rfl⟩ := wi_n (m := 7) (by decide) c_4
    have tj : (nI j).toNatClampNeg = j := nI_clamp (by omega)
    refine lv_iload_n F.x F.b dX1_hangs_7 rfl (lv_at hl 2 rfl) ?_
    refine g_calli I (g_runS (n := 1) (As := [.int (v)]) (rest := []) F I (mt_isDay l G _ (v)   _) q1304 q1305 q56 q1306 hd_mt_isDay.2 ⟨Nat.le_of_ble_eq_true rfl, Nat.le_of_ble_eq_true rfl⟩ rfl rfl hl.1 rfl (lv_room (Nat.le_of_ble_eq_true rfl)) dX1_hangs_8 ⟨by first | exact Nat.le_refl _ | decide, by first | exact Nat.le_refl _ | decide⟩) (fun r u_ H locs hp I => ?_)
    obtain rfl := hp
    refine z_ne (tgt := 17) F dX1_hangs_11 (by decide) (fun c_11 => ?_) (fun c_11 => ?_)
    · obtain ⟨i, hi, rfl⟩ := wi_n (m := 7) (by decide) c_11
      have ti : (nI i).toNatClampNeg = i := nI_clamp (by omega)
      refine lv_aload_n F.x F.b dX1_hangs_17 rfl (lv_at hl 0 rfl) ?_
      refine m_get (v := nI (L 5 0)) F I 5 (by decide) hS.1 q1160 dX1_hangs_18 ?_
      refine n_if_ne (tgt := 27) F (by omega) dX1_hangs_21 (by decide) (fun c_21 => ?_) (fun c_21 => ?_)
      · refine lv_aload_n F.x F.b dX1_hangs_27 rfl (lv_at hl 0 rfl) ?_
        refine lv_iload_n F.x F.b dX1_hangs_28 rfl (lv_at hl 1 rfl) ?_
        refine lv_iload_n F.x F.b dX1_hangs_29 rfl (lv_at hl 2 rfl) ?_
        refine g_calli I (g_runV (n := 2) (ci := 0) (q0 := 0) (As := [.int (nI (j)), .int (nI (i))]) (rest := []) F I (mt_canBy l G o q (S) (j) (i) L 99 (by exact hL) (by exact hS) (by exact hms) (by omega) (by omega) _) q1373 q1375 qs45 q56 q1376 hd_mt_canBy ⟨Nat.le_of_ble_eq_true rfl, Nat.le_of_ble_eq_true rfl⟩ rfl rfl rfl rfl hl.1 rfl (lv_room (Nat.le_of_ble_eq_true rfl)) dX1_hangs_30 ⟨by first | exact Nat.le_refl _ | decide, by first | exact Nat.le_refl _ | decide⟩) (fun r Z30 H locs hp I => ?_)
        obtain ⟨rfl, hq30⟩ := hp
        refine z_ne (tgt := 38) F dX1_hangs_33 (by decide) (fun c_33 => ?_) (fun c_33 => ?_)
        · have hS := mLd_keep hS0 hq30
          refine lv_iconst (v := nI (0)) F.x F.b dX1_hangs_38 (by decide) ?_
          refine lv_istore_n (lv' := [(3, .int (nI (0))), (0, .ref (o)), (1, .int (nI (j))), (2, .int (nI (i)))]) F.x F.b dX1_hangs_39 rfl hl (by decide) rfl (fun ls hl => ?_)
          refine lv_iconst (v := nI (0)) F.x F.b dX1_hangs_40 (by decide) ?_
          refine lv_istore (lv' := [(4, .int (nI (0))), (3, .int (nI (0))), (0, .ref (o)), (1, .int (nI (j))), (2, .int (nI (i)))]) F.x F.b dX1_hangs_41 hl (by decide) rfl (fun ls hl => ?_)
          refine W_ind 43 (fun _ => []) (fun n_J => n_J) (fun n_J H locs ls => ∃ (k : Nat) (S1 : MS), n_J = L 5 0 - k ∧ (k ≤ L 5 0) ∧ (mKeep S (va_up S1.1 13 (S.1 13), S1.2)) ∧  Iw G A s (mW G o q S1) H locs ∧ lv_has ls 5 [(0, .ref (o)), (1, .int (nI (j))), (2, .int (nI (i))), (3, .int (bSet (fun p => !pBy L p j i) k)), (4, .int (nI (k)))]) ?_ _ ⟨0, Z30, rfl, by omega, by obtain ⟨b1, b2, b3, b4, b5, b6, b7, b8, b9, b10, b11, b12, b13, b14, b15, b16, b17⟩ := hq30; exact ⟨b1, b2, b3, rfl, b5, b6, b7, b8, b9, b10, b11, b12, b13, b14, b15, b16, b17⟩, I, lv_sub hl [2, 3, 4, 1, 0] rfl⟩
          intro n43 H locs ls hJ ih43
          obtain ⟨k, S1, hn43, hk, hk13, I, hl⟩ := hJ
          have hS := mLd_keep hS0 hk13
          refine lv_iload F.x F.b dX1_hangs_43 (lv_at hl 4 rfl) ?_
          refine lv_aload_n F.x F.b dX1_hangs_45 rfl (lv_at hl 0 rfl) ?_
          refine m_get (v := nI (L 5 0)) F I 5 (by decide) hS.1 q1160 dX1_hangs_46 ?_
          refine n_icmp_ge (tgt := 84) F (by omega) (by omega) dX1_hangs_49 (by decide) (fun c_49 => ?_) (fun c_49 => ?_)
          · refine lv_aload_n F.x F.b dX1_hangs_84 rfl (lv_at hl 0 rfl) ?_
            refine lv_bipush (v := (-9)) F.x F.b dX1_hangs_85 (by decide) ?_
            refine m_put F I 13 (by decide) q1168 dX1_hangs_87 (fun H locs (I : Iw G A s (mW G o q (va_up S1.1 13 ((-9)), S1.2)) H locs) => ?_)
            refine lv_iload_n F.x F.b dX1_hangs_90 rfl (lv_at hl 3 rfl) ?_
            exact g_iret (u := (va_up S1.1 13 ((-9)), S1.2)) F I (by exact ⟨by rw [aHang, if_pos (by simp [*]), if_neg c_21, tj, ti, if_pos c_33, show L 5 0 = k by omega], by have e := hS0.2.1; exact hk13.tr ⟨rfl, rfl, rfl, by show (-9 : Int32) = S.1 13; rw [e]; rfl, rfl, rfl, rfl, rfl, rfl, rfl, rfl, rfl, rfl, rfl, rfl, rfl, rfl⟩⟩) dX1_hangs_91 (by first | exact Nat.le_refl _ | decide) (by first | exact Nat.le_refl _ | decide)
          · refine lv_aload_n F.x F.b dX1_hangs_52 rfl (lv_at hl 0 rfl) ?_
            refine lv_iload F.x F.b dX1_hangs_53 (lv_at hl 4 rfl) ?_
            refine m_put F I 13 (by decide) q1168 dX1_hangs_55 (fun H locs (I : Iw G A s (mW G o q (va_up S1.1 13 ((nI (k))), S1.2)) H locs) => ?_)
            have hSm := mLd_miss (p := k) hS0 hk13 (by omega)
            refine lv_iload_n F.x F.b dX1_hangs_58 rfl (lv_at hl 3 rfl) ?_
            refine lv_aload_n F.x F.b dX1_hangs_59 rfl (lv_at hl 0 rfl) ?_
            refine lv_iload_n F.x F.b dX1_hangs_60 rfl (lv_at hl 1 rfl) ?_
            refine lv_iload_n F.x F.b dX1_hangs_61 rfl (lv_at hl 2 rfl) ?_
            refine g_calli I (g_runV (n := 2) (ci := 0) (q0 := 0) (As := [.int (nI (j)), .int (nI (i))]) (rest := [.int (bSet (fun p => !pBy L p j i) k)]) F I (mt_canBy l G o q ((va_up S1.1 13 ((nI (k))), S1.2)) (j) (i) L k (by exact hL) (by exact hSm) (by omega) (by omega) (by omega) _) q1373 q1375 qs45 q56 q1376 hd_mt_canBy ⟨Nat.le_of_ble_eq_true rfl, Nat.le_of_ble_eq_true rfl⟩ rfl rfl rfl rfl hl.1 rfl (lv_room (Nat.le_of_ble_eq_true rfl)) dX1_hangs_62 ⟨by first | exact Nat.le_refl _ | decide, by first | exact Nat.le_refl _ | decide⟩) (fun r Z62 H locs hp I => ?_)
            obtain ⟨rfl, hq62⟩ := hp
            refine z_eq (tgt := 72) F dX1_hangs_65 (by decide) (fun c_65 => ?_) (fun c_65 => ?_)
            · refine lv_iconst (v := nI (1)) F.x F.b dX1_hangs_72 (by decide) ?_
              refine lv_iload F.x F.b dX1_hangs_73 (lv_at hl 4 rfl) ?_
              refine lv_ishl (x := 1) (y := (nI (k))) F.x F.b dX1_hangs_75 ?_
              refine lv_ior (x := bSet (fun p => !pBy L p j i) k) (y := (1 <<< ((nI (k)) &&& 31))) F.x F.b dX1_hangs_76 ?_
              refine W.val (y := bSet (fun p => !pBy L p j i) (k + 1)) (by exact bSet_s (fun p => !pBy L p j i) k rfl (by first | (rw [if_pos (by simp [c_65])]; done) | (rw [if_neg (by simp [c_65])]))) ?_
              refine lv_istore_n (lv' := [(3, .int (bSet (fun p => !pBy L p j i) (k + 1))), (0, .ref (o)), (1, .int (nI (j))), (2, .int (nI (i))), (4, .int (nI (k)))]) F.x F.b dX1_hangs_77 rfl hl (by decide) rfl (fun ls hl => ?_)
              refine lv_iinc (v := nI ((k + 1))) (lv' := [(4, .int (nI ((k + 1)))), (3, .int (bSet (fun p => !pBy L p j i) (k + 1))), (0, .ref (o)), (1, .int (nI (j))), (2, .int (nI (i)))]) F.x F.b dX1_hangs_78 hl (k := 4) rfl (nI_1 (k)) (by decide) rfl (fun ls hl => ?_)
              refine lv_goto (tgt := 43) F.x F.b dX1_hangs_81 (by decide) ?_
              exact ih43 _ _ _ _ (by omega) ⟨k + 1, Z62, rfl, by omega, by exact miss_keep hk13 hq62, I, lv_sub hl [2, 3, 4, 1, 0] rfl⟩
            · refine lv_iconst (v := nI (0)) F.x F.b dX1_hangs_68 (by decide) ?_
              refine lv_goto (tgt := 76) F.x F.b dX1_hangs_69 (by decide) ?_
              refine lv_ior (x := bSet (fun p => !pBy L p j i) k) (y := 0) F.x F.b dX1_hangs_76 ?_
              refine W.val (y := bSet (fun p => !pBy L p j i) (k + 1)) (by exact bSet_s (fun p => !pBy L p j i) k rfl (by first | (rw [if_pos (by simp [c_65])]; done) | (rw [if_neg (by simp [c_65])]))) ?_
              refine lv_istore_n (lv' := [(3, .int (bSet (fun p => !pBy L p j i) (k + 1))), (0, .ref (o)), (1, .int (nI (j))), (2, .int (nI (i))), (4, .int (nI (k)))]) F.x F.b dX1_hangs_77 rfl hl (by decide) rfl (fun ls hl => ?_)
              refine lv_iinc (v := nI ((k + 1))) (lv' := [(4, .int (nI ((k + 1)))), (3, .int (bSet (fun p => !pBy L p j i) (k + 1))), (0, .ref (o)), (1, .int (nI (j))), (2, .int (nI (i)))]) F.x F.b dX1_hangs_78 hl (k := 4) rfl (nI_1 (k)) (by decide) rfl (fun ls hl => ?_)
              refine lv_goto (tgt := 43) F.x F.b dX1_hangs_81 (by decide) ?_
              exact ih43 _ _ _ _ (by omega) ⟨k + 1, Z62, rfl, by omega, by exact miss_keep hk13 hq62, I, lv_sub hl [2, 3, 4, 1, 0] rfl⟩
        · refine lv_iconst (v := nI (0)) F.x F.b dX1_hangs_36 (by decide) ?_
          exact g_iret (v := 0) (u := Z30) F I (by exact ⟨by simp [aHang, *], hq30⟩) dX1_hangs_37 (by first | exact Nat.le_refl _ | decide) (by first | exact Nat.le_refl _ | decide)
      · refine lv_bipush (v := (-3)) F.x F.b dX1_hangs_24 (by decide) ?_
        exact g_iret (u := S) F I (by exact ⟨by simp [aHang, *], mKeep.rf⟩) dX1_hangs_26 (by first | exact Nat.le_refl _ | decide) (by first | exact Nat.le_refl _ | decide)
    · refine lv_bipush (v := (-2)) F.x F.b dX1_hangs_14 (by decide) ?_
      exact g_iret (u := S) F I (by exact ⟨by simp [aHang, *], mKeep.rf⟩) dX1_hangs_16 (by first | exact Nat.le_refl _ | decide) (by first | exact Nat.le_refl _ | decide)
