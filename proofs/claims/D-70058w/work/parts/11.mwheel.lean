/-! THE REFERENCE, the wheel -/
set_option maxRecDepth 100000
/-- the reference's arrays hold the land L; ms: the pass that is not there (99: none) -/
def mLd (S : MS) (L : LD) (ms : Nat) : Prop := S.1 5 = nI (L 5 0) ∧ S.1 13 = eN ms ∧ (∀ j, j < L 5 0 → S.2 8 j = nI (L 8 j) ∧ S.2 9 j = nI (L 9 j) ∧ S.2 10 j = nI (L 10 j) ∧ S.2 11 j = nI (L 11 j) ∧ S.2 12 j = nI (L 12 j)) ∧ (∀ d, d < 8 → S.2 6 d = nI (L 6 d)) ∧ ∀ v, v < 3 → S.2 7 v = nI (L 7 v)
/-- what lasts is the same: fields 0, 1, 5, 13, 26; arrays 2 .. 12, 27, 28 -/
def mKeep (S S' : MS) : Prop := S'.1 0 = S.1 0 ∧ S'.1 1 = S.1 1 ∧ S'.1 5 = S.1 5 ∧ S'.1 13 = S.1 13 ∧ S'.1 26 = S.1 26 ∧ S'.2 2 = S.2 2 ∧ S'.2 3 = S.2 3 ∧ S'.2 4 = S.2 4 ∧ S'.2 6 = S.2 6 ∧ S'.2 7 = S.2 7 ∧ S'.2 8 = S.2 8 ∧ S'.2 9 = S.2 9 ∧ S'.2 10 = S.2 10 ∧ S'.2 11 = S.2 11 ∧ S'.2 12 = S.2 12 ∧ S'.2 27 = S.2 27 ∧ S'.2 28 = S.2 28
theorem mKeep.rf {S : MS} : mKeep S S := ⟨rfl, rfl, rfl, rfl, rfl, rfl, rfl, rfl, rfl, rfl, rfl, rfl, rfl, rfl, rfl, rfl, rfl⟩
theorem mKeep.tr {S S1 S2 : MS} (h : mKeep S S1) (k : mKeep S1 S2) : mKeep S S2 := by
  obtain ⟨a1, a2, a3, a4, a5, a6, a7, a8, a9, a10, a11, a12, a13, a14, a15, a16, a17⟩ := h
  obtain ⟨b1, b2, b3, b4, b5, b6, b7, b8, b9, b10, b11, b12, b13, b14, b15, b16, b17⟩ := k
  exact ⟨b1.trans a1, b2.trans a2, b3.trans a3, b4.trans a4, b5.trans a5, b6.trans a6, b7.trans a7, b8.trans a8, b9.trans a9, b10.trans a10, b11.trans a11, b12.trans a12, b13.trans a13, b14.trans a14, b15.trans a15, b16.trans a16, b17.trans a17⟩
theorem mLd_keep {S S' : MS} {L : LD} {ms : Nat} (h : mLd S L ms) (k : mKeep S S') : mLd S' L ms := by
  obtain ⟨b1, b2, b3, b4, b5, b6, b7, b8, b9, b10, b11, b12, b13, b14, b15, b16, b17⟩ := k
  unfold mLd
  rw [b3, b4, b9, b10, b11, b12, b13, b14, b15]
  exact h
/-- the wheel's table stands in the reference's -/
def mTb (S : MS) (w : WH) : Prop := (∀ k, k < 48 → S.2 19 k = eN (w.1 k)) ∧ S.1 20 = eN w.2.1 ∧ S.1 21 = eN w.2.2
theorem mOp_eq {S : MS} {L : LD} {ms : Nat} (h : mLd S L ms) (hL : LOk L) (hms : ms < 100) {j d : Nat} (hj : j < L 5 0) (hd : d < 8) : mOp S j d = pOp L ms j d := by
  obtain ⟨h1, h2, h3, h4, h5⟩ := h
  obtain ⟨a1, -, -, -, a5⟩ := h3 j hj
  obtain ⟨l1, l2, l3, l4, l5, l6⟩ := hL.2.1 j hj
  have l7 := hL.2.2.1 d hd
  have l8 := hL.1
  unfold mOp pOp
  rw [h2, a1, a5, h4 d hd]
  have e1 : decide (nI j = eN ms) = decide (j = ms) := by
    rw [decide_eq_decide]
    rcases Nat.decEq ms 99 with hz | hz
    · rw [eN_i hz]; exact nI_eq (by omega) (by omega)
    · rw [hz, eN_99]; exact ⟨fun z => absurd z (nI_n9 j (by omega)), fun z => by omega⟩
  have e2 : decide (nI (L 8 j) = 2) = decide (L 8 j = 2) := by
    rw [decide_eq_decide]; exact nI_eq (b := 2) (by omega) (by omega)
  have e3 : decide (nI (L 12 j) ≤ nI (L 6 d)) = !decide (L 6 d < L 12 j) := by
    rw [← decide_not, decide_eq_decide, nI_leI (by omega) (by omega)]; omega
  rw [e1, e2, e3]; simp
theorem mTk_eq {S : MS} {L : LD} {ms : Nat} (h : mLd S L ms) (hL : LOk L) {j : Nat} (hj : j < L 5 0) : mTk S j = nI (pTk L j) := by
  obtain ⟨h1, h2, h3, h4, h5⟩ := h
  obtain ⟨a1, a2, a3, a4, a5⟩ := h3 j hj
  obtain ⟨l1, l2, l3, l4, l5, l6⟩ := hL.2.1 j hj
  unfold mTk pTk
  rw [a1, a4]
  exact tk_raw (L 8 j) (by omega) (L 11 j) (by omega)
theorem mOv_eq {S : MS} {L : LD} {ms : Nat} (h : mLd S L ms) (hL : LOk L) {j v : Nat} (hj : j < L 5 0) (hv : v < 3) : mOv S j v = eN (pOv L j v) := by
  obtain ⟨h1, h2, h3, h4, h5⟩ := h
  obtain ⟨a1, a2, a3, a4, a5⟩ := h3 j hj
  obtain ⟨l1, l2, l3, l4, l5, l6⟩ := hL.2.1 j hj
  unfold mOv pOv
  rw [a2, a3]
  simp only [nI_eq (show L 9 j < 2 ^ 31 by omega) (show v < 2 ^ 31 by omega), nI_eq (show L 10 j < 2 ^ 31 by omega) (show v < 2 ^ 31 by omega)]
  split
  · rw [eN_i (by omega)]
  · split
    · rw [eN_i (by omega)]
    · rfl
theorem mGv_eq {S : MS} {L : LD} {ms : Nat} (h : mLd S L ms) (hL : LOk L) {v d : Nat} (hv : v < 3) (hd : d < 8) : mGv S v d = pGv L v d := by
  unfold mGv pGv
  rw [h.2.2.2.2 v hv]
  exact gv_bit (L 7 v) (by have := hL.2.2.2 v hv; omega) d hd
theorem gMi.to {S : Type} {l : Launch} {y : MethodName} {cc : ByteArray} {L : Nat} {ret : Option FieldType} {rm : Room} {G : gG} {av : List Value} {ws : va_W} {w' : S → va_W} {post post' : Int32 → S → Prop} (h : gMi l y cc L ret rm G av ws w' post) (e : post = post') : gMi l y cc L ret rm G av ws w' post' := e ▸ h
section NE
variable {p : Program} {l : Launch} {e : Env} {R : Room} {s : State} {m : MethodId} {args : Array Value} {below : List Frame} {meth : Method} {c : Code} {H : Heap} {locs : List Loc} {cells slots : Nat} {Q : State → Prop}
variable {cc : ByteArray} {nL : Nat} {ret : Option FieldType} {own name : String} {pc : Nat} {ls : Array Slot} {rest : List Value}
theorem e9_eq (F : gF p m meth c cc nL ret s args own name) {x : Nat} {off : Int} {tgt : Nat} (hx : x < 300) (hdg : decode cc pc = .ok (.if_icmp .eq off, 3)) (ht : (pc : Int) + off = (tgt : Int)) (kt : x = 99 → W p l e R s m args below meth c H locs cells slots Q (F0 m tgt ls rest)) (kf : x ≠ 99 → W p l e R s m args below meth c H locs cells slots Q (F0 m (pc + 3) ls rest)) : W p l e R s m args below meth c H locs cells slots Q (F0 m pc ls (.int (-9) :: .int (eN x) :: rest)) := lv_icmp_eq F.x F.b hdg ht (fun h => kt ((eN_iff hx).mp h)) (fun h => kf (fun z => h ((eN_iff hx).mpr z)))
theorem e9_ne (F : gF p m meth c cc nL ret s args own name) {x : Nat} {off : Int} {tgt : Nat} (hx : x < 300) (hdg : decode cc pc = .ok (.if_icmp .ne off, 3)) (ht : (pc : Int) + off = (tgt : Int)) (kt : x ≠ 99 → W p l e R s m args below meth c H locs cells slots Q (F0 m tgt ls rest)) (kf : x = 99 → W p l e R s m args below meth c H locs cells slots Q (F0 m (pc + 3) ls rest)) : W p l e R s m args below meth c H locs cells slots Q (F0 m pc ls (.int (-9) :: .int (eN x) :: rest)) := lv_icmp_ne F.x F.b hdg ht (fun h => kt (fun z => h ((eN_iff hx).mpr z))) (fun h => kf ((eN_iff hx).mp h))
end NE
theorem mTb_cm {S : MS} {w : WH} (h : mTb S w) (hw : tOk w.1) {d v r x : Nat} (hv : v < 3) (hr : r < 2) (hx : x ≤ 98) (hd : d < 8) {y : Int32} (hy : y = if S.2 19 (pSp d v r) = -9 then nI x else if nI x < S.2 19 (pSp d v r) then nI x else S.2 19 (pSp d v r)) : mTb (S.1, va_up S.2 19 (upd (S.2 19) (pSp d v r) y)) (pCm w.1 d v r x, w.2) := by
  refine ⟨fun k hk => ?_, h.2⟩
  show upd (S.2 19) (pSp d v r) y k = eN (pCm w.1 d v r x k)
  unfold pCm upd va_up
  rw [if_pos hd]
  have hl := hw.le (pSp_lt hd hv hr)
  split
  · rw [hy, h.1 _ (pSp_lt hd hv hr)]
    exact eN_cm _ (by omega) _ (by omega)
  · exact h.1 k hk
theorem mTb_cm0 {S : MS} {w : WH} (h : mTb S w) {d v r x : Nat} (hd : 8 ≤ d) : mTb S (pCm w.1 d v r x, w.2) := by
  unfold pCm; rw [if_neg (by omega)]; exact h
theorem dn_no {S : MS} {L : LD} {w : WH} {d v r : Nat} (h : ¬ (r = 1 ∧ v = 2 ∧ pGv L 2 d = true)) (hT : mTb S w) : mTb S (w.1, pDn L w d v r) := by
  unfold pDn; rw [if_neg h]; exact hT
theorem dn_1 : ∀ t, t < 100 → ∀ d, d < 8 → (if eN t = -9 then nI d else eN t) = eN (if t = 99 then d else t) := by decide +kernel
theorem dn_yes {S : MS} {L : LD} {w : WH} {d v r : Nat} (h : r = 1 ∧ v = 2 ∧ pGv L 2 d = true) (hw : wOk w) (hd : d < 8) (hx : w.1 (pSp d v r) ≤ 98) (hT : mTb S w) {a b : Int32} (ha : a = if S.1 20 = -9 then nI d else S.1 20) (hb : b = if S.1 21 = -9 then nI (w.1 (pSp d v r)) else if nI (w.1 (pSp d v r)) < S.1 21 then nI (w.1 (pSp d v r)) else S.1 21) : mTb (va_up (va_up S.1 20 a) 21 b, S.2) (w.1, pDn L w d v r) := by
  unfold pDn; rw [if_pos h]
  refine ⟨hT.1, ?_, ?_⟩
  · show a = eN (if w.2.1 = 99 then d else w.2.1)
    rw [ha, hT.2.1]; exact dn_1 _ (by have := hw.2.1; omega) d hd
  · show b = eN (min w.2.2 (w.1 (pSp d v r)))
    rw [hb, hT.2.2]; exact eN_cm _ (by have := hw.2.2; omega) _ (by omega)
theorem go_end {S : MS} {L : LD} {ms d v r p : Nat} {w : WH} (hx : ¬ w.1 (pSp d v r) = 99) (hp : p = L 5 0) (hT : mTb S (pPs L ms d v r (w.1 (pSp d v r)) (pCm w.1 (d + 1) v r (w.1 (pSp d v r) + 1)) p, pDn L w d v r)) : mTb S (pGo L ms w d v r) := by
  subst hp; unfold pGo; rw [if_neg hx]; exact hT
theorem ps_yes {S : MS} {L : LD} {ms d v r x p : Nat} {T : Nat → Nat} {z : Nat × Nat} (h1 : pOp L ms p d = true) (h2 : pOv L p v ≠ 99) (hT : mTb S (pCm (pPs L ms d v r x T p) (d + pTk L p) (pOv L p v) r x, z)) : mTb S (pPs L ms d v r x T (p + 1), z) := by
  rw [pPs, if_pos (by simp [h1, h2])]; exact hT
theorem ps_no {S : MS} {L : LD} {ms d v r x p : Nat} {T : Nat → Nat} {z : Nat × Nat} (h1 : pOp L ms p d = false ∨ pOv L p v = 99) (hT : mTb S (pPs L ms d v r x T p, z)) : mTb S (pPs L ms d v r x T (p + 1), z) := by
  rw [pPs, if_neg (by rcases h1 with h | h <;> simp [h])]; exact hT

theorem mt_isOpenA (l : Launch) (G : gG) (o : Nat) (q : Nat → Nat) (S : MS) (j : Nat) (d : Nat) (L : LD) (ms : Nat) (hL : LOk L) (hS : mLd S L ms) (hms : ms < 100) (hj : j < L 5 0) (hd : d < 8) : gMi l yX1_isOpen cX1_isOpen 3 (some .boolean) ({ frames := 0, cells := 0, slots := 0, locals := 0 } : Room) G [.ref o, .int (nI (j)), .int (nI (d))] (mW G o q S) (fun S' => mW G o q S') (fun ρ S' => bI (pOp L ms j d) = ρ ∧ S = S') := gMi.to (mt_isOpen l G o q S j d (by have := hL.1; omega) hd) (by funext ρ S'; rw [mOp_eq hS hL hms hj hd])
theorem mt_takesA (l : Launch) (G : gG) (o : Nat) (q : Nat → Nat) (S : MS) (j : Nat) (L : LD) (ms : Nat) (hL : LOk L) (hS : mLd S L ms) (hj : j < L 5 0) : gMi l yX1_takes cX1_takes 2 (some .int) ({ frames := 0, cells := 0, slots := 0, locals := 0 } : Room) G [.ref o, .int (nI (j))] (mW G o q S) (fun S' => mW G o q S') (fun ρ S' => nI (pTk L j) = ρ ∧ S = S') := gMi.to (mt_takes l G o q S j (by have := hL.1; omega)) (by funext ρ S'; rw [mTk_eq hS hL hj])
theorem mt_overA (l : Launch) (G : gG) (o : Nat) (q : Nat → Nat) (S : MS) (j : Nat) (v : Nat) (L : LD) (ms : Nat) (hL : LOk L) (hS : mLd S L ms) (hj : j < L 5 0) (hv : v < 3) : gMi l yX1_over cX1_over 3 (some .int) ({ frames := 0, cells := 0, slots := 0, locals := 0 } : Room) G [.ref o, .int (nI (j)), .int (nI (v))] (mW G o q S) (fun S' => mW G o q S') (fun ρ S' => eN (pOv L j v) = ρ ∧ S = S') := gMi.to (mt_over l G o q S j v (by have := hL.1; omega)) (by funext ρ S'; rw [mOv_eq hS hL hj hv])
theorem mt_doesGiveA (l : Launch) (G : gG) (o : Nat) (q : Nat → Nat) (S : MS) (v : Nat) (d : Nat) (L : LD) (ms : Nat) (hL : LOk L) (hS : mLd S L ms) (hv : v < 3) (hd : d < 8) : gMi l yX1_doesGive cX1_doesGive 3 (some .boolean) ({ frames := 0, cells := 0, slots := 0, locals := 0 } : Room) G [.ref o, .int (nI (v)), .int (nI (d))] (mW G o q S) (fun S' => mW G o q S') (fun ρ S' => bI (pGv L v d) = ρ ∧ S = S') := gMi.to (mt_doesGive l G o q S v d hv) (by funext ρ S'; rw [mGv_eq hS hL hv hd])
theorem hd_mt_comes : yX1_comes.cls = RX1 ∧ yX1_comes.cls ≠ "java/lang/invoke/MethodHandle" ∧ yX1_comes.cls ≠ "java/lang/invoke/VarHandle" ∧ (parseMethodDescriptor yX1_comes.desc).map (fun d => d.parameters.length) = some 4 := by decide +kernel
set_option maxHeartbeats 4000000 in
theorem mt_comes (l : Launch) (G : gG) (o : Nat) (q : Nat → Nat) (S : MS) (d : Nat) (v : Nat) (r : Nat) (x : Nat) (w : WH) (hT : mTb S w) (hw : tOk w.1) (hv : v < 3) (hr : r < 2) (hx : x ≤ 98) (hd : d < 2 ^ 30) : gMv l yX1_comes cX1_comes 6 none ({ frames := 1, cells := 0, slots := 0, locals := 22 } : Room) G [.ref o, .int (nI (d)), .int (nI (v)), .int (nI (r)), .int (nI (x))] (mW G o q S) (fun S' => mW G o q S') (fun S' => mKeep S S' ∧ mTb S' (pCm w.1 d v r x, w.2)) := by
  refine gMv_of (by decide) (Nat.le_of_ble_eq_true rfl) ?_
  intro p e s m below meth c ls A F I hl
  have hl : lv_has ls 6 [(0, .ref (o)), (1, .int (nI (d))), (2, .int (nI (v))), (3, .int (nI (r))), (4, .int (nI (x)))] := hl
  refine lv_iload_n F.x F.b dX1_comes_0 rfl (lv_at hl 1 rfl) ?_
  refine lv_bipush (v := nI (8)) F.x F.b dX1_comes_1 (by decide) ?_
  refine n_icmp_ge (tgt := 57) F (by omega) (by omega) dX1_comes_3 (by decide) (fun c_3 => ?_) (fun c_3 => ?_)
  · exact g_vret (u := S) F I (by exact ⟨mKeep.rf, mTb_cm0 hT c_3⟩) dX1_comes_57 (by first | exact Nat.le_refl _ | decide) (by first | exact Nat.le_refl _ | decide)
  · refine lv_iload_n F.x F.b dX1_comes_6 rfl (lv_at hl 1 rfl) ?_
    refine lv_iload_n F.x F.b dX1_comes_7 rfl (lv_at hl 2 rfl) ?_
    refine lv_iload_n F.x F.b dX1_comes_8 rfl (lv_at hl 3 rfl) ?_
    refine g_calli I (g_runS (n := 3) (As := [.int (nI (d)), .int (nI (v)), .int (nI (r))]) (rest := []) F I (mt_spot l G _ (d) (v) (r)   _) q1342 q1343 q56 q1344 hd_mt_spot.2 ⟨Nat.le_of_ble_eq_true rfl, Nat.le_of_ble_eq_true rfl⟩ rfl rfl hl.1 rfl (lv_room (Nat.le_of_ble_eq_true rfl)) dX1_comes_9 ⟨by first | exact Nat.le_refl _ | decide, by first | exact Nat.le_refl _ | decide⟩) (fun r u_ H locs hp I => ?_)
    obtain rfl := hp
    refine lv_istore (lv' := [(5, .int (nI ((3 * d + v) * 2 + r))), (0, .ref (o)), (1, .int (nI (d))), (2, .int (nI (v))), (3, .int (nI (r))), (4, .int (nI (x)))]) F.x F.b dX1_comes_12 hl (by decide) rfl (fun ls hl => ?_)
    refine lv_aload_n F.x F.b dX1_comes_14 rfl (lv_at hl 1 rfl) ?_
    refine m_geta F I 19 (by decide) q1174 dX1_comes_15 ?_
    refine lv_iload F.x F.b dX1_comes_18 (lv_at hl 0 rfl) ?_
    refine lv_aload_n F.x F.b dX1_comes_20 rfl (lv_at hl 1 rfl) ?_
    refine m_geta F I 19 (by decide) q1174 dX1_comes_21 ?_
    refine lv_iload F.x F.b dX1_comes_24 (lv_at hl 0 rfl) ?_
    refine m_ld (v := ((S.2 19) ((3 * d + v) * 2 + r))) F I 19 (by decide) (show (3 * d + v) * 2 + r < 48 by omega) rfl dX1_comes_26 ?_
    refine lv_bipush (v := (-9)) F.x F.b dX1_comes_27 (by decide) ?_
    refine lv_icmp_eq (x := ((S.2 19) ((3 * d + v) * 2 + r))) (y := (-9)) (tgt := 44) F.x F.b dX1_comes_29 (by decide) (fun c_29 => ?_) (fun c_29 => ?_)
    · refine lv_iload F.x F.b dX1_comes_44 (lv_at hl 5 rfl) ?_
      refine lv_goto (tgt := 56) F.x F.b dX1_comes_46 (by decide) ?_
      refine m_st F I 19 (by decide) (show (3 * d + v) * 2 + r < 48 by omega) dX1_comes_56 (fun H locs (I : Iw G A s (mW G o q (S.1, va_up S.2 19 (upd (S.2 19) ((3 * d + v) * 2 + r) (nI (x))))) H locs) => ?_)
      exact g_vret (u := (S.1, va_up S.2 19 (upd (S.2 19) ((3 * d + v) * 2 + r) (nI (x))))) F I (by exact ⟨by exact ⟨rfl, rfl, rfl, rfl, rfl, rfl, rfl, rfl, rfl, rfl, rfl, rfl, rfl, rfl, rfl, rfl, rfl⟩, mTb_cm (y := _) hT hw hv hr hx c_3 (by first | (simp [pSp, *]; done) | (simp [pSp, ← Int32.not_le, *]; done))⟩) dX1_comes_57 (by first | exact Nat.le_refl _ | decide) (by first | exact Nat.le_refl _ | decide)
    · refine lv_iload F.x F.b dX1_comes_32 (lv_at hl 5 rfl) ?_
      refine lv_aload_n F.x F.b dX1_comes_34 rfl (lv_at hl 1 rfl) ?_
      refine m_geta F I 19 (by decide) q1174 dX1_comes_35 ?_
      refine lv_iload F.x F.b dX1_comes_38 (lv_at hl 0 rfl) ?_
      refine m_ld (v := ((S.2 19) ((3 * d + v) * 2 + r))) F I 19 (by decide) (show (3 * d + v) * 2 + r < 48 by omega) rfl dX1_comes_40 ?_
      refine lv_icmp_ge (x := (nI (x))) (y := ((S.2 19) ((3 * d + v) * 2 + r))) (tgt := 49) F.x F.b dX1_comes_41 (by decide) (fun c_41 => ?_) (fun c_41 => ?_)
      · refine lv_aload_n F.x F.b dX1_comes_49 rfl (lv_at hl 1 rfl) ?_
        refine m_geta F I 19 (by decide) q1174 dX1_comes_50 ?_
        refine lv_iload F.x F.b dX1_comes_53 (lv_at hl 0 rfl) ?_
        refine m_ld (v := ((S.2 19) ((3 * d + v) * 2 + r))) F I 19 (by decide) (show (3 * d + v) * 2 + r < 48 by omega) rfl dX1_comes_55 ?_
        refine m_st F I 19 (by decide) (show (3 * d + v) * 2 + r < 48 by omega) dX1_comes_56 (fun H locs (I : Iw G A s (mW G o q (S.1, va_up S.2 19 (upd (S.2 19) ((3 * d + v) * 2 + r) (((S.2 19) ((3 * d + v) * 2 + r)))))) H locs) => ?_)
        exact g_vret (u := (S.1, va_up S.2 19 (upd (S.2 19) ((3 * d + v) * 2 + r) (((S.2 19) ((3 * d + v) * 2 + r)))))) F I (by exact ⟨by exact ⟨rfl, rfl, rfl, rfl, rfl, rfl, rfl, rfl, rfl, rfl, rfl, rfl, rfl, rfl, rfl, rfl, rfl⟩, mTb_cm (y := _) hT hw hv hr hx c_3 (by first | (simp [pSp, *]; done) | (simp [pSp, ← Int32.not_le, *]; done))⟩) dX1_comes_57 (by first | exact Nat.le_refl _ | decide) (by first | exact Nat.le_refl _ | decide)
      · refine lv_iload F.x F.b dX1_comes_44 (lv_at hl 5 rfl) ?_
        refine lv_goto (tgt := 56) F.x F.b dX1_comes_46 (by decide) ?_
        refine m_st F I 19 (by decide) (show (3 * d + v) * 2 + r < 48 by omega) dX1_comes_56 (fun H locs (I : Iw G A s (mW G o q (S.1, va_up S.2 19 (upd (S.2 19) ((3 * d + v) * 2 + r) (nI (x))))) H locs) => ?_)
        exact g_vret (u := (S.1, va_up S.2 19 (upd (S.2 19) ((3 * d + v) * 2 + r) (nI (x))))) F I (by exact ⟨by exact ⟨rfl, rfl, rfl, rfl, rfl, rfl, rfl, rfl, rfl, rfl, rfl, rfl, rfl, rfl, rfl, rfl, rfl⟩, mTb_cm (y := _) hT hw hv hr hx c_3 (by first | (simp [pSp, *]; done) | (simp [pSp, ← Int32.not_le, *]; done))⟩) dX1_comes_57 (by first | exact Nat.le_refl _ | decide) (by first | exact Nat.le_refl _ | decide)

theorem hd_mt_goOn : yX1_goOn.cls = RX1 ∧ yX1_goOn.cls ≠ "java/lang/invoke/MethodHandle" ∧ yX1_goOn.cls ≠ "java/lang/invoke/VarHandle" ∧ (parseMethodDescriptor yX1_goOn.desc).map (fun d => d.parameters.length) = some 3 := by decide +kernel
set_option maxHeartbeats 4000000 in
theorem mt_goOn (l : Launch) (G : gG) (o : Nat) (q : Nat → Nat) (S : MS) (d : Nat) (v : Nat) (r : Nat) (L : LD) (ms : Nat) (w : WH) (hL : LOk L) (hS : mLd S L ms) (hms : ms < 100) (hT : mTb S w) (hw : wOk w) (hd : d < 8) (hv : v < 3) (hr : r < 2) : gMv l yX1_goOn cX1_goOn 6 none ({ frames := 2, cells := 0, slots := 0, locals := 47 } : Room) G [.ref o, .int (nI (d)), .int (nI (v)), .int (nI (r))] (mW G o q S) (fun S' => mW G o q S') (fun S' => mKeep S S' ∧ mTb S' (pGo L ms w d v r)) := by
  refine gMv_of (by decide) (Nat.le_of_ble_eq_true rfl) ?_
  intro p e s m below meth c ls A F I hl
  have hl : lv_has ls 6 [(0, .ref (o)), (1, .int (nI (d))), (2, .int (nI (v))), (3, .int (nI (r)))] := hl
  have hL5 := hL.1
  have hS0 := hS
  have hk := pSp_lt hd hv hr
  have hb := hw.1 d v r hd hv hr
  have hr31 : v < 2 ^ 31 := by omega
  refine lv_aload_n F.x F.b dX1_goOn_0 rfl (lv_at hl 0 rfl) ?_
  refine m_geta F I 19 (by decide) q1174 dX1_goOn_1 ?_
  refine lv_iload_n F.x F.b dX1_goOn_4 rfl (lv_at hl 1 rfl) ?_
  refine lv_iload_n F.x F.b dX1_goOn_5 rfl (lv_at hl 2 rfl) ?_
  refine lv_iload_n F.x F.b dX1_goOn_6 rfl (lv_at hl 3 rfl) ?_
  refine g_calli I (g_runS (n := 3) (As := [.int (nI (d)), .int (nI (v)), .int (nI (r))]) (rest := [.ref (q 19)]) F I (mt_spot l G _ (d) (v) (r)   _) q1342 q1343 q56 q1344 hd_mt_spot.2 ⟨Nat.le_of_ble_eq_true rfl, Nat.le_of_ble_eq_true rfl⟩ rfl rfl hl.1 rfl (lv_room (Nat.le_of_ble_eq_true rfl)) dX1_goOn_7 ⟨by first | exact Nat.le_refl _ | decide, by first | exact Nat.le_refl _ | decide⟩) (fun r u_ H locs hp I => ?_)
  obtain rfl := hp
  refine m_ld (v := ((S.2 19) ((3 * d + v) * 2 + r))) F I 19 (by decide) (show (3 * d + v) * 2 + r < 48 by omega) rfl dX1_goOn_10 ?_
  rcases Nat.decEq (w.1 (pSp d v r)) 99 with hx | hx
  · refine W.val (y := nI (w.1 (pSp d v r))) ((hT.1 _ hk).trans (eN_i hx)) ?_
    refine lv_istore (lv' := [(4, .int (nI (w.1 (pSp d v r)))), (0, .ref (o)), (1, .int (nI (d))), (2, .int (nI (v))), (3, .int (nI (r)))]) F.x F.b dX1_goOn_11 hl (by decide) rfl (fun ls hl => ?_)
    refine lv_iload F.x F.b dX1_goOn_13 (lv_at hl 0 rfl) ?_
    refine lv_bipush (v := (-9)) F.x F.b dX1_goOn_15 (by decide) ?_
    refine lv_icmp_ne (x := (nI (w.1 (pSp d v r)))) (y := (-9)) (tgt := 21) F.x F.b dX1_goOn_17 (by decide) (fun c_17 => ?_) (fun c_17 => absurd c_17 (by exact nI_n9 _ (by omega)))
    refine W_cut (α := Nat) (cells := 0) (slots := 0) 92 (fun _ => []) (fun _ H locs ls => ∃ (S1 : MS), (mKeep S S1) ∧ (mTb S1 (w.1, pDn L w d v r)) ∧ Iw G A s (mW G o q S1) H locs ∧ lv_has ls 6 [(0, .ref (o)), (1, .int (nI (d))), (2, .int (nI (v))), (3, .int (nI (r))), (4, .int (nI (w.1 (pSp d v r))))]) (fun J92 => ?_) ?_
    · refine lv_iload_n F.x F.b dX1_goOn_21 rfl (lv_at hl 4 rfl) ?_
      refine lv_iconst (v := nI (1)) F.x F.b dX1_goOn_22 (by decide) ?_
      refine n_icmp_ne (tgt := 92) F (by omega) (by omega) dX1_goOn_23 (by decide) (fun c_23 => ?_) (fun c_23 => ?_)
      · exact J92 0 _ _ _ ⟨S, by exact ⟨rfl, rfl, rfl, rfl, rfl, rfl, rfl, rfl, rfl, rfl, rfl, rfl, rfl, rfl, rfl, rfl, rfl⟩, by first | exact dn_yes ⟨c_23, c_28, c_37⟩ hw hd (by omega) hT (by first | rw [if_pos c_47] | rw [if_neg c_47]) (by first | rw [if_pos c_68] | rw [if_neg c_68, if_pos (Int32.not_le.mp c_77)] | rw [if_neg c_68, if_neg (Int32.not_lt.mpr c_77)]) | exact dn_no (by intro h9; simp_all) hT, I, lv_sub hl [1, 2, 3, 4, 0] rfl⟩
      · refine lv_iload_n F.x F.b dX1_goOn_26 rfl (lv_at hl 3 rfl) ?_
        refine lv_iconst (v := nI (2)) F.x F.b dX1_goOn_27 (by decide) ?_
        refine n_icmp_ne (tgt := 92) F (by omega) (by omega) dX1_goOn_28 (by decide) (fun c_28 => ?_) (fun c_28 => ?_)
        · exact J92 0 _ _ _ ⟨S, by exact ⟨rfl, rfl, rfl, rfl, rfl, rfl, rfl, rfl, rfl, rfl, rfl, rfl, rfl, rfl, rfl, rfl, rfl⟩, by first | exact dn_yes ⟨c_23, c_28, c_37⟩ hw hd (by omega) hT (by first | rw [if_pos c_47] | rw [if_neg c_47]) (by first | rw [if_pos c_68] | rw [if_neg c_68, if_pos (Int32.not_le.mp c_77)] | rw [if_neg c_68, if_neg (Int32.not_lt.mpr c_77)]) | exact dn_no (by intro h9; simp_all) hT, I, lv_sub hl [1, 2, 3, 4, 0] rfl⟩
        · refine lv_aload_n F.x F.b dX1_goOn_31 rfl (lv_at hl 1 rfl) ?_
          refine lv_iconst (v := nI (2)) F.x F.b dX1_goOn_32 (by decide) ?_
          refine lv_iload_n F.x F.b dX1_goOn_33 rfl (lv_at hl 2 rfl) ?_
          refine g_calli I (g_runV (n := 2) (ci := 0) (q0 := 0) (As := [.int (nI (2)), .int (nI (d))]) (rest := []) F I (mt_doesGiveA l G o q (S) (2) (d) L ms (by exact hL) (by exact hS) (by omega) (by omega) _) q1334 q1336 qs39 q56 q1337 hd_mt_doesGive ⟨Nat.le_of_ble_eq_true rfl, Nat.le_of_ble_eq_true rfl⟩ rfl rfl rfl rfl hl.1 rfl (lv_room (Nat.le_of_ble_eq_true rfl)) dX1_goOn_34 ⟨by first | exact Nat.le_refl _ | decide, by first | exact Nat.le_refl _ | decide⟩) (fun r u_ H locs hp I => ?_)
          obtain ⟨rfl, rfl⟩ := hp
          refine z_eq (tgt := 92) F dX1_goOn_37 (by decide) (fun c_37 => ?_) (fun c_37 => ?_)
          · exact J92 0 _ _ _ ⟨S, by exact ⟨rfl, rfl, rfl, rfl, rfl, rfl, rfl, rfl, rfl, rfl, rfl, rfl, rfl, rfl, rfl, rfl, rfl⟩, by first | exact dn_yes ⟨c_23, c_28, c_37⟩ hw hd (by omega) hT (by first | rw [if_pos c_47] | rw [if_neg c_47]) (by first | rw [if_pos c_68] | rw [if_neg c_68, if_pos (Int32.not_le.mp c_77)] | rw [if_neg c_68, if_neg (Int32.not_lt.mpr c_77)]) | exact dn_no (by intro h9; simp_all) hT, I, lv_sub hl [1, 2, 3, 4, 0] rfl⟩
          · refine lv_aload_n F.x F.b dX1_goOn_40 rfl (lv_at hl 1 rfl) ?_
            refine lv_aload_n F.x F.b dX1_goOn_41 rfl (lv_at hl 1 rfl) ?_
            refine m_get (v := (S.1 20)) F I 20 (by decide) rfl q1175 dX1_goOn_42 ?_
            refine lv_bipush (v := (-9)) F.x F.b dX1_goOn_45 (by decide) ?_
            refine lv_icmp_ne (x := (S.1 20)) (y := (-9)) (tgt := 54) F.x F.b dX1_goOn_47 (by decide) (fun c_47 => ?_) (fun c_47 => ?_)
            · refine lv_aload_n F.x F.b dX1_goOn_54 rfl (lv_at hl 1 rfl) ?_
              refine m_get (v := (S.1 20)) F I 20 (by decide) rfl q1175 dX1_goOn_55 ?_
              refine m_put F I 20 (by decide) q1175 dX1_goOn_58 (fun H locs (I : Iw G A s (mW G o q (va_up S.1 20 ((S.1 20)), S.2)) H locs) => ?_)
              refine lv_aload_n F.x F.b dX1_goOn_61 rfl (lv_at hl 1 rfl) ?_
              refine lv_aload_n F.x F.b dX1_goOn_62 rfl (lv_at hl 1 rfl) ?_
              refine m_get (v := (S.1 21)) F I 21 (by decide) rfl q1176 dX1_goOn_63 ?_
              refine lv_bipush (v := (-9)) F.x F.b dX1_goOn_66 (by decide) ?_
              refine lv_icmp_eq (x := (S.1 21)) (y := (-9)) (tgt := 80) F.x F.b dX1_goOn_68 (by decide) (fun c_68 => ?_) (fun c_68 => ?_)
              · refine lv_iload F.x F.b dX1_goOn_80 (lv_at hl 0 rfl) ?_
                refine lv_goto (tgt := 89) F.x F.b dX1_goOn_82 (by decide) ?_
                refine m_put F I 21 (by decide) q1176 dX1_goOn_89 (fun H locs (I : Iw G A s (mW G o q (va_up (va_up S.1 20 ((S.1 20))) 21 ((nI (w.1 (pSp d v r)))), S.2)) H locs) => ?_)
                exact J92 0 _ _ _ ⟨(va_up (va_up S.1 20 ((S.1 20))) 21 ((nI (w.1 (pSp d v r)))), S.2), by exact ⟨rfl, rfl, rfl, rfl, rfl, rfl, rfl, rfl, rfl, rfl, rfl, rfl, rfl, rfl, rfl, rfl, rfl⟩, by first | exact dn_yes ⟨c_23, c_28, c_37⟩ hw hd (by omega) hT (by first | rw [if_pos c_47] | rw [if_neg c_47]) (by first | rw [if_pos c_68] | rw [if_neg c_68, if_pos (Int32.not_le.mp c_77)] | rw [if_neg c_68, if_neg (Int32.not_lt.mpr c_77)]) | exact dn_no (by intro h9; simp_all) hT, I, lv_sub hl [1, 2, 3, 4, 0] rfl⟩
              · refine lv_iload F.x F.b dX1_goOn_71 (lv_at hl 0 rfl) ?_
                refine lv_aload_n F.x F.b dX1_goOn_73 rfl (lv_at hl 1 rfl) ?_
                refine m_get (v := (S.1 21)) F I 21 (by decide) rfl q1176 dX1_goOn_74 ?_
                refine lv_icmp_ge (x := (nI (w.1 (pSp d v r)))) (y := (S.1 21)) (tgt := 85) F.x F.b dX1_goOn_77 (by decide) (fun c_77 => ?_) (fun c_77 => ?_)
                · refine lv_aload_n F.x F.b dX1_goOn_85 rfl (lv_at hl 1 rfl) ?_
                  refine m_get (v := (S.1 21)) F I 21 (by decide) rfl q1176 dX1_goOn_86 ?_
                  refine m_put F I 21 (by decide) q1176 dX1_goOn_89 (fun H locs (I : Iw G A s (mW G o q (va_up (va_up S.1 20 ((S.1 20))) 21 ((S.1 21)), S.2)) H locs) => ?_)
                  exact J92 0 _ _ _ ⟨(va_up (va_up S.1 20 ((S.1 20))) 21 ((S.1 21)), S.2), by exact ⟨rfl, rfl, rfl, rfl, rfl, rfl, rfl, rfl, rfl, rfl, rfl, rfl, rfl, rfl, rfl, rfl, rfl⟩, by first | exact dn_yes ⟨c_23, c_28, c_37⟩ hw hd (by omega) hT (by first | rw [if_pos c_47] | rw [if_neg c_47]) (by first | rw [if_pos c_68] | rw [if_neg c_68, if_pos (Int32.not_le.mp c_77)] | rw [if_neg c_68, if_neg (Int32.not_lt.mpr c_77)]) | exact dn_no (by intro h9; simp_all) hT, I, lv_sub hl [1, 2, 3, 4, 0] rfl⟩
                · refine lv_iload F.x F.b dX1_goOn_80 (lv_at hl 0 rfl) ?_
                  refine lv_goto (tgt := 89) F.x F.b dX1_goOn_82 (by decide) ?_
                  refine m_put F I 21 (by decide) q1176 dX1_goOn_89 (fun H locs (I : Iw G A s (mW G o q (va_up (va_up S.1 20 ((S.1 20))) 21 ((nI (w.1 (pSp d v r)))), S.2)) H locs) => ?_)
                  exact J92 0 _ _ _ ⟨(va_up (va_up S.1 20 ((S.1 20))) 21 ((nI (w.1 (pSp d v r)))), S.2), by exact ⟨rfl, rfl, rfl, rfl, rfl, rfl, rfl, rfl, rfl, rfl, rfl, rfl, rfl, rfl, rfl, rfl, rfl⟩, by first | exact dn_yes ⟨c_23, c_28, c_37⟩ hw hd (by omega) hT (by first | rw [if_pos c_47] | rw [if_neg c_47]) (by first | rw [if_pos c_68] | rw [if_neg c_68, if_pos (Int32.not_le.mp c_77)] | rw [if_neg c_68, if_neg (Int32.not_lt.mpr c_77)]) | exact dn_no (by intro h9; simp_all) hT, I, lv_sub hl [1, 2, 3, 4, 0] rfl⟩
            · refine lv_iload_n F.x F.b dX1_goOn_50 rfl (lv_at hl 2 rfl) ?_
              refine lv_goto (tgt := 58) F.x F.b dX1_goOn_51 (by decide) ?_
              refine m_put F I 20 (by decide) q1175 dX1_goOn_58 (fun H locs (I : Iw G A s (mW G o q (va_up S.1 20 ((nI (d))), S.2)) H locs) => ?_)
              refine lv_aload_n F.x F.b dX1_goOn_61 rfl (lv_at hl 1 rfl) ?_
              refine lv_aload_n F.x F.b dX1_goOn_62 rfl (lv_at hl 1 rfl) ?_
              refine m_get (v := (S.1 21)) F I 21 (by decide) rfl q1176 dX1_goOn_63 ?_
              refine lv_bipush (v := (-9)) F.x F.b dX1_goOn_66 (by decide) ?_
              refine lv_icmp_eq (x := (S.1 21)) (y := (-9)) (tgt := 80) F.x F.b dX1_goOn_68 (by decide) (fun c_68 => ?_) (fun c_68 => ?_)
              · refine lv_iload F.x F.b dX1_goOn_80 (lv_at hl 0 rfl) ?_
                refine lv_goto (tgt := 89) F.x F.b dX1_goOn_82 (by decide) ?_
                refine m_put F I 21 (by decide) q1176 dX1_goOn_89 (fun H locs (I : Iw G A s (mW G o q (va_up (va_up S.1 20 ((nI (d)))) 21 ((nI (w.1 (pSp d v r)))), S.2)) H locs) => ?_)
                exact J92 0 _ _ _ ⟨(va_up (va_up S.1 20 ((nI (d)))) 21 ((nI (w.1 (pSp d v r)))), S.2), by exact ⟨rfl, rfl, rfl, rfl, rfl, rfl, rfl, rfl, rfl, rfl, rfl, rfl, rfl, rfl, rfl, rfl, rfl⟩, by first | exact dn_yes ⟨c_23, c_28, c_37⟩ hw hd (by omega) hT (by first | rw [if_pos c_47] | rw [if_neg c_47]) (by first | rw [if_pos c_68] | rw [if_neg c_68, if_pos (Int32.not_le.mp c_77)] | rw [if_neg c_68, if_neg (Int32.not_lt.mpr c_77)]) | exact dn_no (by intro h9; simp_all) hT, I, lv_sub hl [1, 2, 3, 4, 0] rfl⟩
              · refine lv_iload F.x F.b dX1_goOn_71 (lv_at hl 0 rfl) ?_
                refine lv_aload_n F.x F.b dX1_goOn_73 rfl (lv_at hl 1 rfl) ?_
                refine m_get (v := (S.1 21)) F I 21 (by decide) rfl q1176 dX1_goOn_74 ?_
                refine lv_icmp_ge (x := (nI (w.1 (pSp d v r)))) (y := (S.1 21)) (tgt := 85) F.x F.b dX1_goOn_77 (by decide) (fun c_77 => ?_) (fun c_77 => ?_)
                · refine lv_aload_n F.x F.b dX1_goOn_85 rfl (lv_at hl 1 rfl) ?_
                  refine m_get (v := (S.1 21)) F I 21 (by decide) rfl q1176 dX1_goOn_86 ?_
                  refine m_put F I 21 (by decide) q1176 dX1_goOn_89 (fun H locs (I : Iw G A s (mW G o q (va_up (va_up S.1 20 ((nI (d)))) 21 ((S.1 21)), S.2)) H locs) => ?_)
                  exact J92 0 _ _ _ ⟨(va_up (va_up S.1 20 ((nI (d)))) 21 ((S.1 21)), S.2), by exact ⟨rfl, rfl, rfl, rfl, rfl, rfl, rfl, rfl, rfl, rfl, rfl, rfl, rfl, rfl, rfl, rfl, rfl⟩, by first | exact dn_yes ⟨c_23, c_28, c_37⟩ hw hd (by omega) hT (by first | rw [if_pos c_47] | rw [if_neg c_47]) (by first | rw [if_pos c_68] | rw [if_neg c_68, if_pos (Int32.not_le.mp c_77)] | rw [if_neg c_68, if_neg (Int32.not_lt.mpr c_77)]) | exact dn_no (by intro h9; simp_all) hT, I, lv_sub hl [1, 2, 3, 4, 0] rfl⟩
                · refine lv_iload F.x F.b dX1_goOn_80 (lv_at hl 0 rfl) ?_
                  refine lv_goto (tgt := 89) F.x F.b dX1_goOn_82 (by decide) ?_
                  refine m_put F I 21 (by decide) q1176 dX1_goOn_89 (fun H locs (I : Iw G A s (mW G o q (va_up (va_up S.1 20 ((nI (d)))) 21 ((nI (w.1 (pSp d v r)))), S.2)) H locs) => ?_)
                  exact J92 0 _ _ _ ⟨(va_up (va_up S.1 20 ((nI (d)))) 21 ((nI (w.1 (pSp d v r)))), S.2), by exact ⟨rfl, rfl, rfl, rfl, rfl, rfl, rfl, rfl, rfl, rfl, rfl, rfl, rfl, rfl, rfl, rfl, rfl⟩, by first | exact dn_yes ⟨c_23, c_28, c_37⟩ hw hd (by omega) hT (by first | rw [if_pos c_47] | rw [if_neg c_47]) (by first | rw [if_pos c_68] | rw [if_neg c_68, if_pos (Int32.not_le.mp c_77)] | rw [if_neg c_68, if_neg (Int32.not_lt.mpr c_77)]) | exact dn_no (by intro h9; simp_all) hT, I, lv_sub hl [1, 2, 3, 4, 0] rfl⟩
    · intro _ H locs ls hJ
      obtain ⟨S1, hk1, hT1, I, hl⟩ := hJ
      have hS := mLd_keep hS0 hk1
      refine lv_aload_n F.x F.b dX1_goOn_92 rfl (lv_at hl 0 rfl) ?_
      refine lv_iload_n F.x F.b dX1_goOn_93 rfl (lv_at hl 1 rfl) ?_
      refine lv_iconst (v := nI (1)) F.x F.b dX1_goOn_94 (by decide) ?_
      refine n_iadd F dX1_goOn_95 ?_
      refine lv_iload_n F.x F.b dX1_goOn_96 rfl (lv_at hl 2 rfl) ?_
      refine lv_iload_n F.x F.b dX1_goOn_97 rfl (lv_at hl 3 rfl) ?_
      refine lv_iload F.x F.b dX1_goOn_98 (lv_at hl 4 rfl) ?_
      refine lv_iconst (v := nI (1)) F.x F.b dX1_goOn_100 (by decide) ?_
      refine n_iadd F dX1_goOn_101 ?_
      refine g_callv I (g_runV (n := 4) (ci := 0) (q0 := 0) (As := [.int (nI ((d + 1))), .int (nI (v)), .int (nI (r)), .int (nI ((w.1 (pSp d v r) + 1)))]) (rest := []) F I (mt_comes l G o q (S1) ((d + 1)) (v) (r) ((w.1 (pSp d v r) + 1)) (w.1, pDn L w d v r) (by exact hT1) (by exact hw.1) (by omega) (by omega) (by omega) (by omega) _) q1338 q1340 qs40 q56 q1341 hd_mt_comes ⟨Nat.le_of_ble_eq_true rfl, Nat.le_of_ble_eq_true rfl⟩ rfl rfl rfl rfl hl.1 rfl (lv_room (Nat.le_of_ble_eq_true rfl)) dX1_goOn_102 ⟨by first | exact Nat.le_refl _ | decide, by first | exact Nat.le_refl _ | decide⟩) (fun Z102 H locs hp I => ?_)
      have hq102 := hp
      obtain ⟨hk2, hT2⟩ := hq102
      have hS := mLd_keep hS hk2
      have hk2 := hk1.tr hk2
      refine lv_iconst (v := nI (0)) F.x F.b dX1_goOn_105 (by decide) ?_
      refine lv_istore (lv' := [(5, .int (nI (0))), (0, .ref (o)), (1, .int (nI (d))), (2, .int (nI (v))), (3, .int (nI (r))), (4, .int (nI (w.1 (pSp d v r))))]) F.x F.b dX1_goOn_106 hl (by decide) rfl (fun ls hl => ?_)
      refine W_ind 108 (fun _ => []) (fun n_J => n_J) (fun n_J H locs ls => ∃ (p : Nat) (S1 : MS), n_J = L 5 0 - p ∧ (p ≤ L 5 0) ∧ (mKeep S S1) ∧ (mTb S1 (pPs L ms d v r (w.1 (pSp d v r)) (pCm w.1 (d + 1) v r (w.1 (pSp d v r) + 1)) p, pDn L w d v r)) ∧  Iw G A s (mW G o q S1) H locs ∧ lv_has ls 6 [(0, .ref (o)), (1, .int (nI (d))), (2, .int (nI (v))), (3, .int (nI (r))), (4, .int (nI (w.1 (pSp d v r)))), (5, .int (nI (p)))]) ?_ _ ⟨0, Z102, rfl, by omega, by exact hk2, by exact hT2, I, lv_sub hl [1, 2, 3, 4, 5, 0] rfl⟩
      intro n108 H locs ls hJ ih108
      obtain ⟨p, S1, hn108, hp, hk1, hT1, I, hl⟩ := hJ
      have hS := mLd_keep hS0 hk1
      refine lv_iload F.x F.b dX1_goOn_108 (lv_at hl 5 rfl) ?_
      refine lv_aload_n F.x F.b dX1_goOn_110 rfl (lv_at hl 0 rfl) ?_
      refine m_get (v := (S1.1 5)) F I 5 (by decide) rfl q1160 dX1_goOn_111 ?_
      refine W.val (y := nI (L 5 0)) (by exact hS.1) ?_
      refine n_icmp_ge (tgt := 167) F (by omega) (by omega) dX1_goOn_114 (by decide) (fun c_114 => ?_) (fun c_114 => ?_)
      · exact g_vret (u := S1) F I (by exact ⟨hk1, go_end hx (show p = L 5 0 by omega) hT1⟩) dX1_goOn_167 (by first | exact Nat.le_refl _ | decide) (by first | exact Nat.le_refl _ | decide)
      · refine lv_aload_n F.x F.b dX1_goOn_117 rfl (lv_at hl 0 rfl) ?_
        refine lv_iload F.x F.b dX1_goOn_118 (lv_at hl 5 rfl) ?_
        refine lv_iload_n F.x F.b dX1_goOn_120 rfl (lv_at hl 1 rfl) ?_
        refine g_calli I (g_runV (n := 2) (ci := 0) (q0 := 0) (As := [.int (nI (p)), .int (nI (d))]) (rest := []) F I (mt_isOpenA l G o q (S1) (p) (d) L ms (by exact hL) (by exact hS) (by exact hms) (by omega) (by omega) _) q1318 q1320 qs36 q56 q1321 hd_mt_isOpen ⟨Nat.le_of_ble_eq_true rfl, Nat.le_of_ble_eq_true rfl⟩ rfl rfl rfl rfl hl.1 rfl (lv_room (Nat.le_of_ble_eq_true rfl)) dX1_goOn_121 ⟨by first | exact Nat.le_refl _ | decide, by first | exact Nat.le_refl _ | decide⟩) (fun r u_ H locs hp I => ?_)
        obtain ⟨rfl, rfl⟩ := hp
        refine z_eq (tgt := 161) F dX1_goOn_124 (by decide) (fun c_124 => ?_) (fun c_124 => ?_)
        · refine lv_iinc (v := nI ((p + 1))) (lv' := [(5, .int (nI ((p + 1)))), (0, .ref (o)), (1, .int (nI (d))), (2, .int (nI (v))), (3, .int (nI (r))), (4, .int (nI (w.1 (pSp d v r))))]) F.x F.b dX1_goOn_161 hl (k := 5) rfl (nI_1 (p)) (by decide) rfl (fun ls hl => ?_)
          refine lv_goto (tgt := 108) F.x F.b dX1_goOn_164 (by decide) ?_
          exact ih108 _ _ _ _ (by omega) ⟨p + 1, S1, rfl, by omega, by first | exact hk1.tr hk2 | exact hk1, by first | exact ps_yes c_124 c_136 hT2 | exact ps_no (Or.inr c_136) hT1 | exact ps_no (Or.inl c_124) hT1, I, lv_sub hl [1, 2, 3, 4, 5, 0] rfl⟩
        · refine lv_aload_n F.x F.b dX1_goOn_127 rfl (lv_at hl 0 rfl) ?_
          refine lv_iload F.x F.b dX1_goOn_128 (lv_at hl 5 rfl) ?_
          refine lv_iload_n F.x F.b dX1_goOn_130 rfl (lv_at hl 2 rfl) ?_
          refine g_calli I (g_runV (n := 2) (ci := 0) (q0 := 0) (As := [.int (nI (p)), .int (nI (v))]) (rest := []) F I (mt_overA l G o q (S1) (p) (v) L ms (by exact hL) (by exact hS) (by omega) (by omega) _) q1349 q1351 qs42 q56 q1352 hd_mt_over ⟨Nat.le_of_ble_eq_true rfl, Nat.le_of_ble_eq_true rfl⟩ rfl rfl rfl rfl hl.1 rfl (lv_room (Nat.le_of_ble_eq_true rfl)) dX1_goOn_131 ⟨by first | exact Nat.le_refl _ | decide, by first | exact Nat.le_refl _ | decide⟩) (fun r u_ H locs hp I => ?_)
          obtain ⟨rfl, rfl⟩ := hp
          have hov := pOv_in (v := v) hL (show p < L 5 0 by omega)
          have htk := pTk_in hL (show p < L 5 0 by omega)
          refine lv_bipush (v := (-9)) F.x F.b dX1_goOn_134 (by decide) ?_
          refine e9_eq (tgt := 161) F (by omega) dX1_goOn_136 (by decide) (fun c_136 => ?_) (fun c_136 => ?_)
          · refine lv_iinc (v := nI ((p + 1))) (lv' := [(5, .int (nI ((p + 1)))), (0, .ref (o)), (1, .int (nI (d))), (2, .int (nI (v))), (3, .int (nI (r))), (4, .int (nI (w.1 (pSp d v r))))]) F.x F.b dX1_goOn_161 hl (k := 5) rfl (nI_1 (p)) (by decide) rfl (fun ls hl => ?_)
            refine lv_goto (tgt := 108) F.x F.b dX1_goOn_164 (by decide) ?_
            exact ih108 _ _ _ _ (by omega) ⟨p + 1, S1, rfl, by omega, by first | exact hk1.tr hk2 | exact hk1, by first | exact ps_yes c_124 c_136 hT2 | exact ps_no (Or.inr c_136) hT1 | exact ps_no (Or.inl c_124) hT1, I, lv_sub hl [1, 2, 3, 4, 5, 0] rfl⟩
          · refine lv_aload_n F.x F.b dX1_goOn_139 rfl (lv_at hl 0 rfl) ?_
            refine lv_iload_n F.x F.b dX1_goOn_140 rfl (lv_at hl 1 rfl) ?_
            refine lv_aload_n F.x F.b dX1_goOn_141 rfl (lv_at hl 0 rfl) ?_
            refine lv_iload F.x F.b dX1_goOn_142 (lv_at hl 5 rfl) ?_
            refine g_calli I (g_runV (n := 1) (ci := 0) (q0 := 0) (As := [.int (nI (p))]) (rest := [.int (nI (d)), .ref (o)]) F I (mt_takesA l G o q (S1) (p) L ms (by exact hL) (by exact hS) (by omega) _) q1296 q1298 qs35 q56 q1299 hd_mt_takes ⟨Nat.le_of_ble_eq_true rfl, Nat.le_of_ble_eq_true rfl⟩ rfl rfl rfl rfl hl.1 rfl (lv_room (Nat.le_of_ble_eq_true rfl)) dX1_goOn_144 ⟨by first | exact Nat.le_refl _ | decide, by first | exact Nat.le_refl _ | decide⟩) (fun r u_ H locs hp I => ?_)
            obtain ⟨rfl, rfl⟩ := hp
            refine n_iadd F dX1_goOn_147 ?_
            refine lv_aload_n F.x F.b dX1_goOn_148 rfl (lv_at hl 0 rfl) ?_
            refine lv_iload F.x F.b dX1_goOn_149 (lv_at hl 5 rfl) ?_
            refine lv_iload_n F.x F.b dX1_goOn_151 rfl (lv_at hl 2 rfl) ?_
            refine g_calli I (g_runV (n := 2) (ci := 0) (q0 := 0) (As := [.int (nI (p)), .int (nI (v))]) (rest := [.int (nI ((d + pTk L p))), .ref (o)]) F I (mt_overA l G o q (S1) (p) (v) L ms (by exact hL) (by exact hS) (by omega) (by omega) _) q1349 q1351 qs42 q56 q1352 hd_mt_over ⟨Nat.le_of_ble_eq_true rfl, Nat.le_of_ble_eq_true rfl⟩ rfl rfl rfl rfl hl.1 rfl (lv_room (Nat.le_of_ble_eq_true rfl)) dX1_goOn_152 ⟨by first | exact Nat.le_refl _ | decide, by first | exact Nat.le_refl _ | decide⟩) (fun r u_ H locs hp I => ?_)
            obtain ⟨rfl, rfl⟩ := hp
            refine W.val (y := nI (pOv L p v)) (by exact eN_i c_136) ?_
            refine lv_iload_n F.x F.b dX1_goOn_155 rfl (lv_at hl 3 rfl) ?_
            refine lv_iload F.x F.b dX1_goOn_156 (lv_at hl 4 rfl) ?_
            refine g_callv I (g_runV (n := 4) (ci := 0) (q0 := 0) (As := [.int (nI ((d + pTk L p))), .int (nI (pOv L p v)), .int (nI (r)), .int (nI (w.1 (pSp d v r)))]) (rest := []) F I (mt_comes l G o q (S1) ((d + pTk L p)) (pOv L p v) (r) (w.1 (pSp d v r)) (pPs L ms d v r (w.1 (pSp d v r)) (pCm w.1 (d + 1) v r (w.1 (pSp d v r) + 1)) p, pDn L w d v r) (by exact hT1) (by exact tOk_ps hL (tOk_cm hw.1 hv hr (by omega)) hr (by omega) p (by omega)) (by omega) (by omega) (by omega) (by omega) _) q1338 q1340 qs40 q56 q1341 hd_mt_comes ⟨Nat.le_of_ble_eq_true rfl, Nat.le_of_ble_eq_true rfl⟩ rfl rfl rfl rfl hl.1 rfl (lv_room (Nat.le_of_ble_eq_true rfl)) dX1_goOn_158 ⟨by first | exact Nat.le_refl _ | decide, by first | exact Nat.le_refl _ | decide⟩) (fun Z158 H locs hp I => ?_)
            have hq158 := hp
            obtain ⟨hk2, hT2⟩ := hq158
            refine lv_iinc (v := nI ((p + 1))) (lv' := [(5, .int (nI ((p + 1)))), (0, .ref (o)), (1, .int (nI (d))), (2, .int (nI (v))), (3, .int (nI (r))), (4, .int (nI (w.1 (pSp d v r))))]) F.x F.b dX1_goOn_161 hl (k := 5) rfl (nI_1 (p)) (by decide) rfl (fun ls hl => ?_)
            refine lv_goto (tgt := 108) F.x F.b dX1_goOn_164 (by decide) ?_
            exact ih108 _ _ _ _ (by omega) ⟨p + 1, Z158, rfl, by omega, by first | exact hk1.tr hk2 | exact hk1, by first | exact ps_yes c_124 c_136 hT2 | exact ps_no (Or.inr c_136) hT1 | exact ps_no (Or.inl c_124) hT1, I, lv_sub hl [1, 2, 3, 4, 5, 0] rfl⟩
  · refine W.val (y := -9) ((hT.1 _ hk).trans (by rw [hx]; rfl)) ?_
    refine lv_istore (lv' := [(4, .int ((-9))), (0, .ref (o)), (1, .int (nI (d))), (2, .int (nI (v))), (3, .int (nI (r)))]) F.x F.b dX1_goOn_11 hl (by decide) rfl (fun ls hl => ?_)
    refine lv_iload F.x F.b dX1_goOn_13 (lv_at hl 0 rfl) ?_
    refine lv_bipush (v := (-9)) F.x F.b dX1_goOn_15 (by decide) ?_
    refine lv_icmp_ne (x := (-9)) (y := (-9)) (tgt := 21) F.x F.b dX1_goOn_17 (by decide) (fun c_17 => absurd c_17 (by exact fun z => z rfl)) (fun c_17 => ?_)
    exact g_vret (u := S) F I (by exact ⟨mKeep.rf, by unfold pGo; rw [if_pos hx]; exact hT⟩) dX1_goOn_20 (by first | exact Nat.le_refl _ | decide) (by first | exact Nat.le_refl _ | decide)
