/-! THE COMPONENT, leaves and the wheel -/
set_option maxRecDepth 100000
def inL (v a b : Int64) : Bool := !decide (v < a) && !decide (b < v)
theorem lgc_lt {x y : Int64} : lg_cmp x y < 0 ↔ x < y := by
  unfold lg_cmp
  split
  · rename_i h; exact ⟨fun z => absurd z (by decide), fun z => absurd z (Int64.not_lt.mpr (Int64.le_of_lt h))⟩
  · split
    · rename_i h; exact ⟨fun z => absurd z (by decide), fun z => by rw [h] at z; exact absurd z (by simp)⟩
    · rename_i h1 h2
      refine ⟨fun _ => ?_, fun _ => by decide⟩
      rcases Int64.lt_or_le x y with h | h
      · exact h
      · exact absurd (Int64.le_antisymm (Int64.not_lt.mp h1) h) h2
theorem lgc_gt {x y : Int64} : 0 < lg_cmp x y ↔ y < x := by
  unfold lg_cmp
  split
  · rename_i h; exact ⟨fun _ => h, fun _ => by decide⟩
  · rename_i h1
    refine ⟨fun z => ?_, fun z => absurd z h1⟩
    split at z
    · exact absurd z (by decide)
    · exact absurd z (by decide)
theorem inL_wi (x a b : Int32) : inL x.toInt64 a.toInt64 b.toInt64 = mWi x a b := by
  unfold inL mWi
  simp only [Int64.lt_iff_toInt_lt, Int32.lt_iff_toInt_lt, Int32.toInt_toInt64]
theorem eN_neg : ∀ t, t < 300 → (eN t < 0 ↔ t = 99) := by decide +kernel
theorem opN_eq {L : LD} {ms j d : Nat} : opN (L 8 j) (L 12 j) (L 6 d) (decide (j = ms)) = pOp L ms j d := by
  unfold opN pOp
  simp
/-- snow and the days that give -/
def cLs (S : MS) (L : LD) : Prop := (∀ d, d < 8 → S.2 1 d = nI (L 6 d)) ∧ ∀ v, v < 3 → S.2 2 v = nI (L 7 v)
/-- what lasts is the same -/
def cKeep (S S' : MS) : Prop := S'.1 0 = S.1 0 ∧ S'.1 12 = S.1 12 ∧ S'.2 1 = S.2 1 ∧ S'.2 2 = S.2 2
theorem cKeep.rf {S : MS} : cKeep S S := ⟨rfl, rfl, rfl, rfl⟩
theorem cKeep.tr {S S1 S2 : MS} (h : cKeep S S1) (k : cKeep S1 S2) : cKeep S S2 := ⟨k.1.trans h.1, k.2.1.trans h.2.1, k.2.2.1.trans h.2.2.1, k.2.2.2.trans h.2.2.2⟩
theorem cLs_keep {S S' : MS} {L : LD} (h : cLs S L) (k : cKeep S S') : cLs S' L := by
  unfold cLs
  rw [k.2.2.1, k.2.2.2]
  exact h
/-- the wheel's table, as the reference's lemmas ask it -/
def vT (S : MS) : MS := (fun k => if k = 20 then S.1 5 else S.1 6, fun _ => S.2 4)
abbrev cTb (S : MS) (w : WH) : Prop := mTb (vT S) w
theorem cGv {S : MS} {L : LD} (h : cLs S L) (hL : LOk L) {v d : Nat} (hv : v < 3) (hd : d < 8) : decide ((S.2 2 v >>> (nI d &&& 31)) &&& 1 = 1) = pGv L v d := by
  rw [h.2 v hv]
  exact gv_bit (L 7 v) (by have := hL.2.2.2 v hv; omega) d hd
theorem cTb_cm {S : MS} {w : WH} (h : cTb S w) (hw : tOk w.1) {d v r x : Nat} (hv : v < 3) (hr : r < 2) (hx : x ≤ 98) (hd : d < 8) {y : Int32} (hy : y = if S.2 4 (pSp d v r) = -9 then nI x else if nI x < S.2 4 (pSp d v r) then nI x else S.2 4 (pSp d v r)) : cTb (S.1, va_up S.2 4 (upd (S.2 4) (pSp d v r) y)) (pCm w.1 d v r x, w.2) :=
  mTb_cm h hw hv hr hx hd hy
theorem cdn_no {S : MS} {L : LD} {w : WH} {T : Nat → Nat} {d v r : Nat} (h : ¬ (r = 1 ∧ v = 2 ∧ pGv L 2 d = true)) (hT : cTb S (T, w.2)) : cTb (va_up (va_up S.1 5 (S.1 5)) 6 (S.1 6), S.2) (T, pDn L w d v r) := by
  unfold pDn; rw [if_neg h]; exact hT
theorem cdn_yes {S : MS} {L : LD} {w : WH} {T : Nat → Nat} {d v r : Nat} (h : r = 1 ∧ v = 2 ∧ pGv L 2 d = true) (hw : wOk w) (hd : d < 8) (hx : w.1 (pSp d v r) ≤ 98) (hT : cTb S (T, w.2)) {a b : Int32} (ha : a = if S.1 5 < 0 then nI d else S.1 5) (hb : b = if S.1 6 < 0 then nI (w.1 (pSp d v r)) else if nI (w.1 (pSp d v r)) < S.1 6 then nI (w.1 (pSp d v r)) else S.1 6) : cTb (va_up (va_up S.1 5 a) 6 b, S.2) (T, pDn L w d v r) := by
  have h1 : S.1 5 = eN w.2.1 := hT.2.1
  have h2 : S.1 6 = eN w.2.2 := hT.2.2
  have e1 : ∀ t : Nat, t < 300 → ∀ x y : Int32, (if eN t < 0 then x else y) = if eN t = -9 then x else y := by
    intro t ht x y
    by_cases hz : t = 99
    · rw [if_pos ((eN_neg t ht).mpr hz), if_pos ((eN_iff ht).mpr hz)]
    · rw [if_neg (fun z => hz ((eN_neg t ht).mp z)), if_neg (fun z => hz ((eN_iff ht).mp z))]
  unfold pDn; rw [if_pos h]
  refine ⟨hT.1, ?_, ?_⟩
  · show a = eN (if w.2.1 = 99 then d else w.2.1)
    rw [ha, h1, e1 _ (by have := hw.2.1; omega)]; exact dn_1 _ (by have := hw.2.1; omega) d hd
  · show b = eN (min w.2.2 (w.1 (pSp d v r)))
    rw [hb, h2, e1 _ (by have := hw.2.2; omega)]; exact eN_cm _ (by have := hw.2.2; omega) _ (by omega)
theorem cYp.get {G : gG} {o : Nat} {q : Nat → Nat} {Y : va_W} {L : LD} {ms : Nat} (h : cYp G o q Y L ms) {j : Nat} (hj : j < L 5 0) : ∃ (el : Nat) (f : Nat → Option Nat) (pa kp : Nat), cYl q Y 3 (L 5 0) el ∧ cYa G Y el f ∧ f j = some pa ∧ Y[kp]? = some (pa, .inr (2 + L 8 j, pF (L 8 j) o j (L 9 j) (L 10 j) (L 11 j) (L 12 j) (decide (j = ms)))) := by
  obtain ⟨el, h1, h2⟩ := h
  rcases h2 with h2 | ⟨f, h3, h4⟩
  · omega
  · obtain ⟨pa, h5, kp, h6⟩ := h4 j hj
    exact ⟨el, f, pa, kp, h1, h3, h5, h6⟩
theorem pv_eq {n : Nat} (hn : n ≤ 6) (x : Int32) : mWi x 0 (nI n - 1) = (!decide (x < 0) && !decide (nI n ≤ x)) := by
  unfold mWi
  have e : (nI n - 1 < x) ↔ nI n ≤ x := by
    have h1 : (nI n - 1).toInt = (n : Int) - 1 := by
      rcases (show n = 0 ∨ n = 1 ∨ n = 2 ∨ n = 3 ∨ n = 4 ∨ n = 5 ∨ n = 6 by omega) with rfl | rfl | rfl | rfl | rfl | rfl | rfl <;> decide
    rw [Int32.lt_iff_toInt_lt, Int32.le_iff_toInt_le, h1, nI_toInt (by omega)]
    omega
  simp only [e]
section ER
variable {p : Program} {l : Launch} {e : Env} {R : Room} {s : State} {m : MethodId} {args : Array Value} {below : List Frame} {meth : Method} {c : Code} {H : Heap} {locs : List Loc} {cells slots : Nat} {Q : State → Prop}
variable {cc : ByteArray} {nL : Nat} {ret : Option FieldType} {own name : String} {G : gG} {A : Nat → Prop} {pc : Nat} {ls : Array Slot} {rest : List Value} {o : Nat} {q : Nat → Nat} {S : MS} {Y : va_W}
theorem e_lt (F : gF p m meth c cc nL ret s args own name) {x : Nat} {off : Int} {tgt : Nat} (hx : x < 300) (hdg : decode cc pc = .ok (.ifCond .lt off, 3)) (ht : (pc : Int) + off = (tgt : Int)) (kt : x = 99 → W p l e R s m args below meth c H locs cells slots Q (F0 m tgt ls rest)) (kf : x ≠ 99 → W p l e R s m args below meth c H locs cells slots Q (F0 m (pc + 3) ls rest)) : W p l e R s m args below meth c H locs cells slots Q (F0 m pc ls (.int (eN x) :: rest)) := lv_if_lt F.x F.b hdg ht (fun h => kt ((eN_neg x hx).mp h)) (fun h => kf (fun z => h ((eN_neg x hx).mpr z)))
theorem e_ge (F : gF p m meth c cc nL ret s args own name) {x : Nat} {off : Int} {tgt : Nat} (hx : x < 300) (hdg : decode cc pc = .ok (.ifCond .ge off, 3)) (ht : (pc : Int) + off = (tgt : Int)) (kt : x ≠ 99 → W p l e R s m args below meth c H locs cells slots Q (F0 m tgt ls rest)) (kf : x = 99 → W p l e R s m args below meth c H locs cells slots Q (F0 m (pc + 3) ls rest)) : W p l e R s m args below meth c H locs cells slots Q (F0 m pc ls (.int (eN x) :: rest)) := lv_if_ge F.x F.b hdg ht (fun h => kt (fun z => Int32.not_lt.mpr h ((eN_neg x hx).mpr z))) (fun h => kf ((eN_neg x hx).mp (Int32.not_le.mp h)))
theorem c_len (F : gF p m meth c cc nL ret s args own name) (I : Iw G A s (cW G o q S Y) H locs) (k : Nat) (hk : cIsA k) (hdg : decode cc pc = .ok (.arraylength, 1))
    (kk : W p l e R s m args below meth c H locs cells slots Q (F0 m (pc + 1) ls (.int (nI (cLen k)) :: rest))) : W p l e R s m args below meth c H locs cells slots Q (F0 m pc ls (.ref (q k) :: rest)) :=
  va_alen (ty := .int) F.x F.b I.K I.P (cPos k) 0 (c_at hk) rfl rfl hdg kk
end ER
theorem g_min {own : String} {p : Program} {l : Launch} {e : Env} {R : Room} {s : State} {m : MethodId} {args : Array Value} {below : List Frame} {meth : Method} {c : Code} {H : Heap} {locs : List Loc} {cells slots : Nat} {Q : State → Prop} {cc : ByteArray} {nL : Nat} {ret : Option FieldType} {name : String} {pc : Nat} {ls : Array Slot} {rest : List Value} (F : gF p m meth c cc nL ret s args own name) (hsz : ls.size = nL) {index : Nat} (h1 : Cond.methodLink own index Lib.Math.min.name ∈ lw_all) (hR : 1 ≤ R.frames ∧ 24 ≤ R.locals) (hW : (rest.map fun v => v.category).sum ≤ 8) (hf : cells ≤ R.cells ∧ slots ≤ R.slots) {x y : Int32} (hdg : decode cc pc = .ok (.invokestatic index, 3))
    (kk : W p l e R s m args below meth c H locs cells slots Q (F0 m (pc + 3) ls (.int (if y < x then y else x) :: rest))) : W p l e R s m args below meth c H locs cells slots Q (F0 m pc ls (.int y :: .int x :: rest)) :=
  va_mmin F.x F.b (by rw [hsz]; exact F.1.2.2.1) F.o (F.t _ h1) (F.t _ q317) (F.t _ q71) (F.t _ q318) hR.1 (by omega) hf.1 hf.2 hdg kk
theorem g_max {own : String} {p : Program} {l : Launch} {e : Env} {R : Room} {s : State} {m : MethodId} {args : Array Value} {below : List Frame} {meth : Method} {c : Code} {H : Heap} {locs : List Loc} {cells slots : Nat} {Q : State → Prop} {cc : ByteArray} {nL : Nat} {ret : Option FieldType} {name : String} {pc : Nat} {ls : Array Slot} {rest : List Value} (F : gF p m meth c cc nL ret s args own name) (hsz : ls.size = nL) {index : Nat} (h1 : Cond.methodLink own index Lib.Math.max.name ∈ lw_all) (hR : 1 ≤ R.frames ∧ 24 ≤ R.locals) (hW : (rest.map fun v => v.category).sum ≤ 8) (hf : cells ≤ R.cells ∧ slots ≤ R.slots) {x y : Int32} (hdg : decode cc pc = .ok (.invokestatic index, 3))
    (kk : W p l e R s m args below meth c H locs cells slots Q (F0 m (pc + 3) ls (.int (if x < y then y else x) :: rest))) : W p l e R s m args below meth c H locs cells slots Q (F0 m pc ls (.int y :: .int x :: rest)) :=
  va_mmax F.x F.b (by rw [hsz]; exact F.1.2.2.1) F.o (F.t _ h1) (F.t _ q406) (F.t _ q71) (F.t _ q407) hR.1 (by omega) hf.1 hf.2 hdg kk
theorem hd_ct_in : yX0_in.cls ≠ "java/lang/invoke/MethodHandle" ∧ yX0_in.cls ≠ "java/lang/invoke/VarHandle" ∧ (parseMethodDescriptor yX0_in.desc).map (fun d => d.parameters.length) = some 3 := by decide +kernel
set_option maxHeartbeats 4000000 in
theorem ct_in (l : Launch) (G : gG) (ws : va_W)  (v : Int64) (a : Int64) (b : Int64)   : gMi l yX0_in cX0_in 6 (some .boolean) ({ frames := 0, cells := 0, slots := 0, locals := 0 } : Room) G [.long (v), .long (a), .long (b)] ws (fun _ : Unit => ws) (fun ρ _ => bI (inL v a b) = ρ) := by
  refine gMi_of (by decide) (Nat.le_of_ble_eq_true rfl) ?_
  intro p e s m below meth c ls A F I hl
  have hl : lv_has ls 6 [(0, .long (v)), (2, .long (a)), (4, .long (b))] := hl
  refine lv_lload_n F.x F.b dX0_in_0 rfl (lv_at hl 0 rfl) ?_
  refine lv_lload_n F.x F.b dX0_in_1 rfl (lv_at hl 1 rfl) ?_
  refine W.lcmp F.x F.b dX0_in_2 ?_
  refine lv_if_lt (x := (lg_cmp (v) (a))) (tgt := 17) F.x F.b dX0_in_3 (by decide) (fun c_3 => ?_) (fun c_3 => ?_)
  · refine lv_iconst (v := nI (0)) F.x F.b dX0_in_17 (by decide) ?_
    exact g_zret (u := ()) F I (by first | exact bI_01 _ | exact Or.inl rfl | exact Or.inr rfl) (by simp_all [inL, lgc_lt, lgc_gt, bI, nI_0, nI1]) dX0_in_18 (by first | exact Nat.le_refl _ | decide) (by first | exact Nat.le_refl _ | decide)
  · refine lv_lload_n F.x F.b dX0_in_6 rfl (lv_at hl 0 rfl) ?_
    refine lv_lload F.x F.b dX0_in_7 (lv_at hl 2 rfl) ?_
    refine W.lcmp F.x F.b dX0_in_9 ?_
    refine lv_if_gt (x := (lg_cmp (v) (b))) (tgt := 17) F.x F.b dX0_in_10 (by decide) (fun c_10 => ?_) (fun c_10 => ?_)
    · refine lv_iconst (v := nI (0)) F.x F.b dX0_in_17 (by decide) ?_
      exact g_zret (u := ()) F I (by first | exact bI_01 _ | exact Or.inl rfl | exact Or.inr rfl) (by simp_all [inL, lgc_lt, lgc_gt, bI, nI_0, nI1]) dX0_in_18 (by first | exact Nat.le_refl _ | decide) (by first | exact Nat.le_refl _ | decide)
    · refine lv_iconst (v := nI (1)) F.x F.b dX0_in_13 (by decide) ?_
      refine lv_goto (tgt := 18) F.x F.b dX0_in_14 (by decide) ?_
      exact g_zret (u := ()) F I (by first | exact bI_01 _ | exact Or.inl rfl | exact Or.inr rfl) (by simp_all [inL, lgc_lt, lgc_gt, bI, nI_0, nI1]) dX0_in_18 (by first | exact Nat.le_refl _ | decide) (by first | exact Nat.le_refl _ | decide)

theorem hd_ct_isIn : yX0_isIn.cls ≠ "java/lang/invoke/MethodHandle" ∧ yX0_isIn.cls ≠ "java/lang/invoke/VarHandle" ∧ (parseMethodDescriptor yX0_isIn.desc).map (fun d => d.parameters.length) = some 2 := by decide +kernel
set_option maxHeartbeats 4000000 in
theorem ct_isIn (l : Launch) (G : gG) (ws : va_W)  (bits : Int32) (dd : Nat)   : gMi l yX0_isIn cX0_isIn 2 (some .boolean) ({ frames := 0, cells := 0, slots := 0, locals := 0 } : Room) G [.int (bits), .int (nI (dd))] ws (fun _ : Unit => ws) (fun ρ _ => bI (decide ((bits >>> (nI dd &&& 31)) &&& 1 = 1)) = ρ) := by
  refine gMi_of (by decide) (Nat.le_of_ble_eq_true rfl) ?_
  intro p e s m below meth c ls A F I hl
  have hl : lv_has ls 2 [(0, .int (bits)), (1, .int (nI (dd)))] := hl
  refine lv_iload_n F.x F.b dX0_isIn_0 rfl (lv_at hl 0 rfl) ?_
  refine lv_iload_n F.x F.b dX0_isIn_1 rfl (lv_at hl 1 rfl) ?_
  refine lv_ishr (x := bits) (y := (nI (dd))) F.x F.b dX0_isIn_2 ?_
  refine lv_iconst (v := nI (1)) F.x F.b dX0_isIn_3 (by decide) ?_
  refine lv_iand (x := (bits >>> ((nI (dd)) &&& 31))) (y := 1) F.x F.b dX0_isIn_4 ?_
  refine lv_iconst (v := nI (1)) F.x F.b dX0_isIn_5 (by decide) ?_
  refine lv_icmp_ne (x := ((bits >>> ((nI (dd)) &&& 31)) &&& 1)) (y := 1) (tgt := 13) F.x F.b dX0_isIn_6 (by decide) (fun c_6 => ?_) (fun c_6 => ?_)
  · refine lv_iconst (v := nI (0)) F.x F.b dX0_isIn_13 (by decide) ?_
    exact g_zret (u := ()) F I (by first | exact bI_01 _ | exact Or.inl rfl | exact Or.inr rfl) (by simp [*, bI, nI_0, nI1]) dX0_isIn_14 (by first | exact Nat.le_refl _ | decide) (by first | exact Nat.le_refl _ | decide)
  · refine lv_iconst (v := nI (1)) F.x F.b dX0_isIn_9 (by decide) ?_
    refine lv_goto (tgt := 14) F.x F.b dX0_isIn_10 (by decide) ?_
    exact g_zret (u := ()) F I (by first | exact bI_01 _ | exact Or.inl rfl | exact Or.inr rfl) (by simp [*, bI, nI_0, nI1]) dX0_isIn_14 (by first | exact Nat.le_refl _ | decide) (by first | exact Nat.le_refl _ | decide)

theorem hd_ct_isDay : yX0_isDay.cls ≠ "java/lang/invoke/MethodHandle" ∧ yX0_isDay.cls ≠ "java/lang/invoke/VarHandle" ∧ (parseMethodDescriptor yX0_isDay.desc).map (fun d => d.parameters.length) = some 1 := by decide +kernel
set_option maxHeartbeats 4000000 in
theorem ct_isDay (l : Launch) (G : gG) (ws : va_W)  (k : Int32)   : gMi l yX0_isDay cX0_isDay 1 (some .boolean) ({ frames := 1, cells := 0, slots := 0, locals := 25 } : Room) G [.int (k)] ws (fun _ : Unit => ws) (fun ρ _ => bI (mWi k 0 7) = ρ) := by
  refine gMi_of (by decide) (Nat.le_of_ble_eq_true rfl) ?_
  intro p e s m below meth c ls A F I hl
  have hl : lv_has ls 1 [(0, .int (k))] := hl
  refine lv_iload_n F.x F.b dX0_isDay_0 rfl (lv_at hl 0 rfl) ?_
  refine lv_i2l (v := (k).toInt64) F.x F.b dX0_isDay_1 rfl ?_
  refine lv_lconst (v := 0) F.x F.b dX0_isDay_2 (by decide) ?_
  refine lv_ldc2 (v := 7) F.x F.b F.o (F.t _ q250) dX0_isDay_3 ?_
  refine g_calli I (g_runS (n := 3) (As := [.long ((k).toInt64), .long (0), .long ((7))]) (rest := []) F I (ct_in l G _ ((k).toInt64) (0) ((7))   _) q186 q187 q52 q188 hd_ct_in ⟨Nat.le_of_ble_eq_true rfl, Nat.le_of_ble_eq_true rfl⟩ rfl rfl hl.1 rfl (lv_room (Nat.le_of_ble_eq_true rfl)) dX0_isDay_6 ⟨by first | exact Nat.le_refl _ | decide, by first | exact Nat.le_refl _ | decide⟩) (fun r u_ H locs hp I => ?_)
  obtain rfl := hp
  exact g_zret (u := ()) F I (by first | exact bI_01 _ | exact Or.inl rfl | exact Or.inr rfl) (by exact congrArg bI (inL_wi k 0 7).symm) dX0_isDay_9 (by first | exact Nat.le_refl _ | decide) (by first | exact Nat.le_refl _ | decide)

theorem hd_ct_isValley : yX0_isValley.cls ≠ "java/lang/invoke/MethodHandle" ∧ yX0_isValley.cls ≠ "java/lang/invoke/VarHandle" ∧ (parseMethodDescriptor yX0_isValley.desc).map (fun d => d.parameters.length) = some 1 := by decide +kernel
set_option maxHeartbeats 4000000 in
theorem ct_isValley (l : Launch) (G : gG) (ws : va_W)  (k : Int32)   : gMi l yX0_isValley cX0_isValley 1 (some .boolean) ({ frames := 1, cells := 0, slots := 0, locals := 25 } : Room) G [.int (k)] ws (fun _ : Unit => ws) (fun ρ _ => bI (mWi k 0 2) = ρ) := by
  refine gMi_of (by decide) (Nat.le_of_ble_eq_true rfl) ?_
  intro p e s m below meth c ls A F I hl
  have hl : lv_has ls 1 [(0, .int (k))] := hl
  refine lv_iload_n F.x F.b dX0_isValley_0 rfl (lv_at hl 0 rfl) ?_
  refine lv_i2l (v := (k).toInt64) F.x F.b dX0_isValley_1 rfl ?_
  refine lv_lconst (v := 0) F.x F.b dX0_isValley_2 (by decide) ?_
  refine lv_ldc2 (v := 2) F.x F.b F.o (F.t _ q272) dX0_isValley_3 ?_
  refine g_calli I (g_runS (n := 3) (As := [.long ((k).toInt64), .long (0), .long ((2))]) (rest := []) F I (ct_in l G _ ((k).toInt64) (0) ((2))   _) q186 q187 q52 q188 hd_ct_in ⟨Nat.le_of_ble_eq_true rfl, Nat.le_of_ble_eq_true rfl⟩ rfl rfl hl.1 rfl (lv_room (Nat.le_of_ble_eq_true rfl)) dX0_isValley_6 ⟨by first | exact Nat.le_refl _ | decide, by first | exact Nat.le_refl _ | decide⟩) (fun r u_ H locs hp I => ?_)
  obtain rfl := hp
  exact g_zret (u := ()) F I (by first | exact bI_01 _ | exact Or.inl rfl | exact Or.inr rfl) (by exact congrArg bI (inL_wi k 0 2).symm) dX0_isValley_9 (by first | exact Nat.le_refl _ | decide) (by first | exact Nat.le_refl _ | decide)

theorem hd_ct_noSheet : yX0_noSheet.cls ≠ "java/lang/invoke/MethodHandle" ∧ yX0_noSheet.cls ≠ "java/lang/invoke/VarHandle" ∧ (parseMethodDescriptor yX0_noSheet.desc).map (fun d => d.parameters.length) = some 1 := by decide +kernel
set_option maxHeartbeats 4000000 in
theorem ct_noSheet (l : Launch) (G : gG) (ws : va_W)  (k : Int32)   : gMi l yX0_noSheet cX0_noSheet 1 (some .boolean) ({ frames := 1, cells := 0, slots := 0, locals := 25 } : Room) G [.int (k)] ws (fun _ : Unit => ws) (fun ρ _ => bI (!mWi k 0 3) = ρ) := by
  refine gMi_of (by decide) (Nat.le_of_ble_eq_true rfl) ?_
  intro p e s m below meth c ls A F I hl
  have hl : lv_has ls 1 [(0, .int (k))] := hl
  refine lv_iload_n F.x F.b dX0_noSheet_0 rfl (lv_at hl 0 rfl) ?_
  refine lv_i2l (v := (k).toInt64) F.x F.b dX0_noSheet_1 rfl ?_
  refine lv_lconst (v := 0) F.x F.b dX0_noSheet_2 (by decide) ?_
  refine lv_ldc2 (v := 3) F.x F.b F.o (F.t _ q673) dX0_noSheet_3 ?_
  refine g_calli I (g_runS (n := 3) (As := [.long ((k).toInt64), .long (0), .long ((3))]) (rest := []) F I (ct_in l G _ ((k).toInt64) (0) ((3))   _) q186 q187 q52 q188 hd_ct_in ⟨Nat.le_of_ble_eq_true rfl, Nat.le_of_ble_eq_true rfl⟩ rfl rfl hl.1 rfl (lv_room (Nat.le_of_ble_eq_true rfl)) dX0_noSheet_6 ⟨by first | exact Nat.le_refl _ | decide, by first | exact Nat.le_refl _ | decide⟩) (fun r u_ H locs hp I => ?_)
  obtain rfl := hp
  refine z_ne (tgt := 16) F dX0_noSheet_9 (by decide) (fun c_9 => ?_) (fun c_9 => ?_)
  · refine lv_iconst (v := nI (0)) F.x F.b dX0_noSheet_16 (by decide) ?_
    exact g_zret (u := ()) F I (by first | exact bI_01 _ | exact Or.inl rfl | exact Or.inr rfl) (by rw [← inL_wi]; show _ = _; simp_all [bI, nI_0, nI1]) dX0_noSheet_17 (by first | exact Nat.le_refl _ | decide) (by first | exact Nat.le_refl _ | decide)
  · refine lv_iconst (v := nI (1)) F.x F.b dX0_noSheet_12 (by decide) ?_
    refine lv_goto (tgt := 17) F.x F.b dX0_noSheet_13 (by decide) ?_
    exact g_zret (u := ()) F I (by first | exact bI_01 _ | exact Or.inl rfl | exact Or.inr rfl) (by rw [← inL_wi]; show _ = _; simp_all [bI, nI_0, nI1]) dX0_noSheet_17 (by first | exact Nat.le_refl _ | decide) (by first | exact Nat.le_refl _ | decide)

theorem hd_ct_placeOf : yX0_placeOf.cls ≠ "java/lang/invoke/MethodHandle" ∧ yX0_placeOf.cls ≠ "java/lang/invoke/VarHandle" ∧ (parseMethodDescriptor yX0_placeOf.desc).map (fun d => d.parameters.length) = some 3 := by decide +kernel
set_option maxHeartbeats 4000000 in
theorem ct_placeOf (l : Launch) (G : gG) (ws : va_W)  (d : Nat) (v : Nat) (r : Nat)   : gMi l yX0_placeOf cX0_placeOf 3 (some .int) ({ frames := 0, cells := 0, slots := 0, locals := 0 } : Room) G [.int (nI (d)), .int (nI (v)), .int (nI (r))] ws (fun _ : Unit => ws) (fun ρ _ => nI (pSp d v r) = ρ) := by
  refine gMi_of (by decide) (Nat.le_of_ble_eq_true rfl) ?_
  intro p e s m below meth c ls A F I hl
  have hl : lv_has ls 3 [(0, .int (nI (d))), (1, .int (nI (v))), (2, .int (nI (r)))] := hl
  refine lv_iload_n F.x F.b dX0_placeOf_0 rfl (lv_at hl 0 rfl) ?_
  refine lv_iconst (v := nI (3)) F.x F.b dX0_placeOf_1 (by decide) ?_
  refine n_imul F dX0_placeOf_2 ?_
  refine lv_iload_n F.x F.b dX0_placeOf_3 rfl (lv_at hl 1 rfl) ?_
  refine n_iadd F dX0_placeOf_4 ?_
  refine lv_iconst (v := nI (2)) F.x F.b dX0_placeOf_5 (by decide) ?_
  refine n_imul F dX0_placeOf_6 ?_
  refine lv_iload_n F.x F.b dX0_placeOf_7 rfl (lv_at hl 2 rfl) ?_
  refine n_iadd F dX0_placeOf_8 ?_
  exact g_iret (u := ()) F I (by rw [show pSp d v r = (d * 3 + v) * 2 + r by unfold pSp; omega]) dX0_placeOf_9 (by first | exact Nat.le_refl _ | decide) (by first | exact Nat.le_refl _ | decide)
