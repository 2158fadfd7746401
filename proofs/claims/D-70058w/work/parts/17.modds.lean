/-! PLAIN LAW, 6, and the reference: odds -/
set_option maxRecDepth 100000
theorem lgc_eq {x y : Int64} : lg_cmp x y = 0 ↔ x = y := by
  unfold lg_cmp
  split
  · rename_i h
    constructor
    · intro e; exact absurd e (by decide)
    · intro e; rw [e] at h; exact absurd h (by simp)
  · split
    · rename_i h; exact ⟨fun _ => h, fun _ => rfl⟩
    · rename_i h; exact ⟨fun e => absurd e (by decide), fun e => absurd e h⟩
section LK
variable {p : Program} {l : Launch} {e : Env} {R : Room} {s : State} {m : MethodId} {args : Array Value} {below : List Frame} {meth : Method} {c : Code} {H : Heap} {locs : List Loc} {cells slots : Nat} {Q : State → Prop}
variable {cc : ByteArray} {nL : Nat} {ret : Option FieldType} {own name : String} {pc : Nat} {ls : Array Slot} {rest : List Value}
theorem W.vall {x y : Int64} (h : x = y) (k : W p l e R s m args below meth c H locs cells slots Q (F0 m pc ls (.long y :: rest))) : W p l e R s m args below meth c H locs cells slots Q (F0 m pc ls (.long x :: rest)) := h ▸ k
theorem L_ne {b : Nat} (h0 : 0 < b) (hb : b < 2 ^ 31) : ¬ lN b = 0 := fun z => by have := (lN_eq hb (show 0 < 2 ^ 31 by decide)).mp z; omega
theorem L_ldiv (F : gF p m meth c cc nL ret s args own name) {a b : Nat} (hdg : decode cc pc = .ok (.ldiv, 1)) (ha : a < 2 ^ 31) (h0 : 0 < b) (hb : b < 2 ^ 31) (k : W p l e R s m args below meth c H locs cells slots Q (F0 m (pc + 1) ls (.long (lN (a / b)) :: rest))) : W p l e R s m args below meth c H locs cells slots Q (F0 m pc ls (.long (lN b) :: .long (lN a) :: rest)) := lv_ldiv F.x F.b hdg (L_ne h0 hb) (W.vall (pk_lDiv (by omega) h0 (by omega)) k)
theorem L_lrem (F : gF p m meth c cc nL ret s args own name) {a b : Nat} (hdg : decode cc pc = .ok (.lrem, 1)) (ha : a < 2 ^ 31) (h0 : 0 < b) (hb : b < 2 ^ 31) (k : W p l e R s m args below meth c H locs cells slots Q (F0 m (pc + 1) ls (.long (lN (a % b)) :: rest))) : W p l e R s m args below meth c H locs cells slots Q (F0 m pc ls (.long (lN b) :: .long (lN a) :: rest)) := lv_lrem F.x F.b hdg (L_ne h0 hb) (W.vall (pk_lRem (by omega) h0 (by omega)) k)
end LK
/-- the set n lies within the set a -/
def sbs (n a : Nat) : Bool := decide ((nI n &&& (nI a ^^^ (-1))) = 0)
theorem sb_t {n a : Nat} {b : Bool} (h : (nI n &&& (nI a ^^^ (-1))) = 0) (h2 : b = true) : (sbs n a && b) = true := by rw [show sbs n a = true from decide_eq_true h, h2]; rfl
theorem sb_f {n a : Nat} {b : Bool} (h : (nI n &&& (nI a ^^^ (-1))) = 0) (h2 : b = false) : (sbs n a && b) = false := by rw [show sbs n a = true from decide_eq_true h, h2]; rfl
theorem sb_n {n a : Nat} {b : Bool} (h : ¬ (nI n &&& (nI a ^^^ (-1))) = 0) : (sbs n a && b) = false := by rw [show sbs n a = false from decide_eq_false h]; rfl
def oM (L : LD) (k d x : Nat) : Nat := cnt (fun n => sbs n (L 7 k) && pBy (lUp L 7 k n) 99 d x) 256
def oA (L : LD) (k : Nat) : Nat := cnt (fun n => sbs n (L 7 k)) 256
def aOdds (L : LD) (x v y z : Int32) : Int64 := if mWi x 1 2 && (mWi v 0 7 && (mWi y 0 7 && (mWi z 0 1 && decide (L 5 0 ≠ 0)))) then (if z = 0 then lN (oM L x.toNatClampNeg v.toNatClampNeg y.toNatClampNeg / Nat.gcd (oM L x.toNatClampNeg v.toNatClampNeg y.toNatClampNeg) (oA L x.toNatClampNeg)) else lN (oA L x.toNatClampNeg / Nat.gcd (oM L x.toNatClampNeg v.toNatClampNeg y.toNatClampNeg) (oA L x.toNatClampNeg))) else -9223372036854775808
theorem wi_12 {x : Int32} (h : mWi x 1 2 = true) : ∃ j, (1 ≤ j ∧ j ≤ 2) ∧ x = nI j := by
  unfold mWi at h
  rw [Bool.and_eq_true, Bool.not_eq_true', Bool.not_eq_true', decide_eq_false_iff_not, decide_eq_false_iff_not] at h
  have h0 : ¬ x < 0 := fun z => h.1 (Int32.lt_trans z (by decide))
  obtain ⟨j, hj, rfl⟩ := nI_of h0
  have a := mt (nI_ltI (a := j) (b := 1) hj (by decide)).mpr h.1
  have b := mt (nI_ltI (a := 2) (b := j) (by decide) hj).mpr h.2
  exact ⟨j, ⟨by omega, by omega⟩, rfl⟩
theorem cnt_pos {f : Nat → Bool} (h : f 0 = true) : ∀ n, 0 < n → 0 < cnt f n
  | 0, h0 => absurd h0 (Nat.lt_irrefl _)
  | n + 1, _ => by
    unfold cnt
    cases n with
    | zero => rw [if_pos h]; omega
    | succ n => have := cnt_pos h (n + 1) (by omega); split <;> omega
theorem sbs_0 : ∀ a, a < 256 → sbs 0 a = true := by decide +kernel
theorem oA_pos {L : LD} (hL : LOk L) {k : Nat} (hk : k < 3) : 0 < oA L k := cnt_pos (f := fun n => sbs n (L 7 k)) (sbs_0 _ (by have := hL.2.2.2 k hk; omega)) 256 (by omega)

theorem hd_mt_inLeastTerms : yX1_inLeastTerms.cls = RX1 ∧ yX1_inLeastTerms.cls ≠ "java/lang/invoke/MethodHandle" ∧ yX1_inLeastTerms.cls ≠ "java/lang/invoke/VarHandle" ∧ (parseMethodDescriptor yX1_inLeastTerms.desc).map (fun d => d.parameters.length) = some 3 := by decide +kernel
set_option maxHeartbeats 4000000 in
theorem mt_inLeastTerms (l : Launch) (G : gG) (ws : va_W) (a : Nat) (b : Nat) (w : Int32)  (ha : a < 2 ^ 31) (hb : b < 2 ^ 31) (hb0 : 0 < b) : gMl l yX1_inLeastTerms cX1_inLeastTerms 11 (some .long) ({ frames := 0, cells := 0, slots := 0, locals := 0 } : Room) G [.long (lN (a)), .long (lN (b)), .int (w)] ws (fun _ : Unit => ws) (fun ρ _ => lN (if w = 0 then a / Nat.gcd a b else b / Nat.gcd a b) = ρ) := by
  refine gMl_of (by decide) (Nat.le_of_ble_eq_true rfl) ?_
  intro p e s m below meth c ls A F I hl
  have hl : lv_has ls 11 [(0, .long (lN (a))), (2, .long (lN (b))), (4, .int (w))] := hl
  refine lv_lload_n F.x F.b dX1_inLeastTerms_0 rfl (lv_at hl 0 rfl) ?_
  refine lv_lstore (lv' := [(5, .long (lN (a))), (0, .long (lN (a))), (2, .long (lN (b))), (4, .int (w))]) F.x F.b dX1_inLeastTerms_1 hl (by decide) rfl (fun ls hl => ?_)
  refine lv_lload_n F.x F.b dX1_inLeastTerms_3 rfl (lv_at hl 2 rfl) ?_
  refine lv_lstore (lv' := [(7, .long (lN (b))), (5, .long (lN (a))), (0, .long (lN (a))), (2, .long (lN (b))), (4, .int (w))]) F.x F.b dX1_inLeastTerms_4 hl (by decide) rfl (fun ls hl => ?_)
  refine W_ind 6 (fun _ => []) (fun n_J => n_J) (fun n_J H locs ls => ∃ (x : Nat) (y : Nat), n_J = y ∧ (x < 2 ^ 31) ∧ (y < 2 ^ 31) ∧ (0 < x ∨ 0 < y) ∧ (Nat.gcd x y = Nat.gcd a b) ∧  Iw G A s (ws) H locs ∧ lv_has ls 11 [(0, .long (lN (a))), (2, .long (lN (b))), (4, .int (w)), (5, .long (lN (x))), (7, .long (lN (y)))]) ?_ _ ⟨a, b, rfl, by omega, by omega, by omega, by rfl, I, lv_sub hl [2, 3, 4, 1, 0] rfl⟩
  intro n6 H locs ls hJ ih6
  obtain ⟨x, y, hn6, hx, hy, hxy, hg, I, hl⟩ := hJ
  refine lv_lload F.x F.b dX1_inLeastTerms_6 (lv_at hl 4 rfl) ?_
  refine lv_lconst (v := 0) F.x F.b dX1_inLeastTerms_8 (by decide) ?_
  refine W.lcmp F.x F.b dX1_inLeastTerms_9 ?_
  refine lv_if_eq (x := (lg_cmp (lN (y)) (0))) (tgt := 31) F.x F.b dX1_inLeastTerms_10 (by decide) (fun c_10 => ?_) (fun c_10 => ?_)
  · have c_y : y = 0 := (lN_eq (by omega) (show 0 < 2 ^ 31 by decide)).mp (lgc_eq.mp c_10)
    have hg2 : Nat.gcd a b = x := by rw [← hg, c_y, Nat.gcd_zero_right]
    refine lv_iload F.x F.b dX1_inLeastTerms_31 (lv_at hl 2 rfl) ?_
    refine lv_if_ne (x := w) (tgt := 43) F.x F.b dX1_inLeastTerms_33 (by decide) (fun c_33 => ?_) (fun c_33 => ?_)
    · refine lv_lload_n F.x F.b dX1_inLeastTerms_43 rfl (lv_at hl 1 rfl) ?_
      refine lv_lload F.x F.b dX1_inLeastTerms_44 (lv_at hl 3 rfl) ?_
      refine L_ldiv F dX1_inLeastTerms_46 (by omega) (by omega) (by omega) ?_
      exact g_lret (u := ()) F I (by first | rw [if_pos c_33, hg2] | rw [if_neg c_33, hg2]) dX1_inLeastTerms_47 (by first | exact Nat.le_refl _ | decide) (by first | exact Nat.le_refl _ | decide)
    · refine lv_lload_n F.x F.b dX1_inLeastTerms_36 rfl (lv_at hl 0 rfl) ?_
      refine lv_lload F.x F.b dX1_inLeastTerms_37 (lv_at hl 3 rfl) ?_
      refine L_ldiv F dX1_inLeastTerms_39 (by omega) (by omega) (by omega) ?_
      refine lv_goto (tgt := 47) F.x F.b dX1_inLeastTerms_40 (by decide) ?_
      exact g_lret (u := ()) F I (by first | rw [if_pos c_33, hg2] | rw [if_neg c_33, hg2]) dX1_inLeastTerms_47 (by first | exact Nat.le_refl _ | decide) (by first | exact Nat.le_refl _ | decide)
  · have c_y : ¬ y = 0 := fun z9 => c_10 (lgc_eq.mpr (by rw [z9]; rfl))
    refine lv_lload F.x F.b dX1_inLeastTerms_13 (lv_at hl 3 rfl) ?_
    refine lv_lload F.x F.b dX1_inLeastTerms_15 (lv_at hl 4 rfl) ?_
    refine L_lrem F dX1_inLeastTerms_17 (by omega) (by omega) (by omega) ?_
    refine lv_lstore (lv' := [(9, .long (lN ((x % y)))), (0, .long (lN (a))), (2, .long (lN (b))), (4, .int (w)), (5, .long (lN (x))), (7, .long (lN (y)))]) F.x F.b dX1_inLeastTerms_18 hl (by decide) rfl (fun ls hl => ?_)
    refine lv_lload F.x F.b dX1_inLeastTerms_20 (lv_at hl 5 rfl) ?_
    refine lv_lstore (lv' := [(5, .long (lN (y))), (9, .long (lN ((x % y)))), (0, .long (lN (a))), (2, .long (lN (b))), (4, .int (w)), (7, .long (lN (y)))]) F.x F.b dX1_inLeastTerms_22 hl (by decide) rfl (fun ls hl => ?_)
    refine lv_lload F.x F.b dX1_inLeastTerms_24 (lv_at hl 1 rfl) ?_
    refine lv_lstore (lv' := [(7, .long (lN ((x % y)))), (5, .long (lN (y))), (9, .long (lN ((x % y)))), (0, .long (lN (a))), (2, .long (lN (b))), (4, .int (w))]) F.x F.b dX1_inLeastTerms_26 hl (by decide) rfl (fun ls hl => ?_)
    refine lv_goto (tgt := 6) F.x F.b dX1_inLeastTerms_28 (by decide) ?_
    exact ih6 _ _ _ _ (by exact Nat.lt_of_lt_of_eq (Nat.mod_lt _ (by omega)) hn6.symm) ⟨y, x % y, rfl, by omega, by exact Nat.lt_trans (Nat.mod_lt _ (by omega)) hy, by omega, by rw [← hg, Nat.gcd_comm x y]; exact (Nat.gcd_rec y x).symm ▸ (by rw [Nat.gcd_comm]), I, lv_sub hl [3, 4, 5, 1, 0] rfl⟩

theorem hd_mt_odds : yX1_odds.cls = RX1 ∧ yX1_odds.cls ≠ "java/lang/invoke/MethodHandle" ∧ yX1_odds.cls ≠ "java/lang/invoke/VarHandle" ∧ (parseMethodDescriptor yX1_odds.desc).map (fun d => d.parameters.length) = some 4 := by decide +kernel
set_option maxHeartbeats 4000000 in
theorem mt_odds (l : Launch) (G : gG) (o : Nat) (q : Nat → Nat) (S : MS) (x : Int32) (v : Int32) (y : Int32) (z : Int32) (L : LD) (hL : LOk L) (hS : mLd S L 99) : gMl l yX1_odds cX1_odds 9 (some .long) ({ frames := 6, cells := 0, slots := 0, locals := 140 } : Room) G [.ref o, .int (x), .int (v), .int (y), .int (z)] (mW G o q S) (fun S' => mW G o q S') (fun ρ S' => aOdds L x v y z = ρ ∧ mKeep S S') := by
  refine gMl_of (by decide) (Nat.le_of_ble_eq_true rfl) ?_
  intro p e s m below meth c ls A F I hl
  have hl : lv_has ls 9 [(0, .ref (o)), (1, .int (x)), (2, .int (v)), (3, .int (y)), (4, .int (z))] := hl
  have hL5 := hL.1
  have hS0 := hS
  have hms : 99 < 100 := by decide
  refine lv_iload_n F.x F.b dX1_odds_0 rfl (lv_at hl 1 rfl) ?_
  refine lv_iconst (v := nI (1)) F.x F.b dX1_odds_1 (by decide) ?_
  refine lv_iconst (v := nI (2)) F.x F.b dX1_odds_2 (by decide) ?_
  refine g_calli I (g_runS (n := 3) (As := [.int (x), .int (nI (1)), .int (nI (2))]) (rest := []) F I (mt_within l G _ (x) (1) (2)   _) q1250 q1251 q56 q1252 hd_mt_within.2 ⟨Nat.le_of_ble_eq_true rfl, Nat.le_of_ble_eq_true rfl⟩ rfl rfl hl.1 rfl (lv_room (Nat.le_of_ble_eq_true rfl)) dX1_odds_3 ⟨by first | exact Nat.le_refl _ | decide, by first | exact Nat.le_refl _ | decide⟩) (fun r u_ H locs hp I => ?_)
  obtain rfl := hp
  refine z_eq (tgt := 40) F dX1_odds_6 (by decide) (fun c_6 => ?_) (fun c_6 => ?_)
  · refine lv_ldc2 (v := -9223372036854775808) F.x F.b F.o (F.t _ q1425) dX1_odds_40 ?_
    exact g_lret (u := S) F I (by exact ⟨by simp [aOdds, *], mKeep.rf⟩) dX1_odds_43 (by first | exact Nat.le_refl _ | decide) (by first | exact Nat.le_refl _ | decide)
  · obtain ⟨k, hk, rfl⟩ := wi_12 c_6
    have tk : (nI k).toNatClampNeg = k := nI_clamp (by omega)
    refine lv_iload_n F.x F.b dX1_odds_9 rfl (lv_at hl 2 rfl) ?_
    refine g_calli I (g_runS (n := 1) (As := [.int (v)]) (rest := []) F I (mt_isDay l G _ (v)   _) q1304 q1305 q56 q1306 hd_mt_isDay.2 ⟨Nat.le_of_ble_eq_true rfl, Nat.le_of_ble_eq_true rfl⟩ rfl rfl hl.1 rfl (lv_room (Nat.le_of_ble_eq_true rfl)) dX1_odds_10 ⟨by first | exact Nat.le_refl _ | decide, by first | exact Nat.le_refl _ | decide⟩) (fun r u_ H locs hp I => ?_)
    obtain rfl := hp
    refine z_eq (tgt := 40) F dX1_odds_13 (by decide) (fun c_13 => ?_) (fun c_13 => ?_)
    · refine lv_ldc2 (v := -9223372036854775808) F.x F.b F.o (F.t _ q1425) dX1_odds_40 ?_
      exact g_lret (u := S) F I (by exact ⟨by simp [aOdds, *], mKeep.rf⟩) dX1_odds_43 (by first | exact Nat.le_refl _ | decide) (by first | exact Nat.le_refl _ | decide)
    · obtain ⟨j, hj, rfl⟩ := wi_n (m := 7) (by decide) c_13
      have tj : (nI j).toNatClampNeg = j := nI_clamp (by omega)
      refine lv_iload_n F.x F.b dX1_odds_16 rfl (lv_at hl 3 rfl) ?_
      refine g_calli I (g_runS (n := 1) (As := [.int (y)]) (rest := []) F I (mt_isDay l G _ (y)   _) q1304 q1305 q56 q1306 hd_mt_isDay.2 ⟨Nat.le_of_ble_eq_true rfl, Nat.le_of_ble_eq_true rfl⟩ rfl rfl hl.1 rfl (lv_room (Nat.le_of_ble_eq_true rfl)) dX1_odds_17 ⟨by first | exact Nat.le_refl _ | decide, by first | exact Nat.le_refl _ | decide⟩) (fun r u_ H locs hp I => ?_)
      obtain rfl := hp
      refine z_eq (tgt := 40) F dX1_odds_20 (by decide) (fun c_20 => ?_) (fun c_20 => ?_)
      · refine lv_ldc2 (v := -9223372036854775808) F.x F.b F.o (F.t _ q1425) dX1_odds_40 ?_
        exact g_lret (u := S) F I (by exact ⟨by simp [aOdds, *], mKeep.rf⟩) dX1_odds_43 (by first | exact Nat.le_refl _ | decide) (by first | exact Nat.le_refl _ | decide)
      · obtain ⟨i, hi, rfl⟩ := wi_n (m := 7) (by decide) c_20
        have ti : (nI i).toNatClampNeg = i := nI_clamp (by omega)
        refine lv_iload F.x F.b dX1_odds_23 (lv_at hl 4 rfl) ?_
        refine lv_iconst (v := nI (0)) F.x F.b dX1_odds_25 (by decide) ?_
        refine lv_iconst (v := nI (1)) F.x F.b dX1_odds_26 (by decide) ?_
        refine g_calli I (g_runS (n := 3) (As := [.int (z), .int (nI (0)), .int (nI (1))]) (rest := []) F I (mt_within l G _ (z) (0) (1)   _) q1250 q1251 q56 q1252 hd_mt_within.2 ⟨Nat.le_of_ble_eq_true rfl, Nat.le_of_ble_eq_true rfl⟩ rfl rfl hl.1 rfl (lv_room (Nat.le_of_ble_eq_true rfl)) dX1_odds_27 ⟨by first | exact Nat.le_refl _ | decide, by first | exact Nat.le_refl _ | decide⟩) (fun r u_ H locs hp I => ?_)
        obtain rfl := hp
        refine z_eq (tgt := 40) F dX1_odds_30 (by decide) (fun c_30 => ?_) (fun c_30 => ?_)
        · refine lv_ldc2 (v := -9223372036854775808) F.x F.b F.o (F.t _ q1425) dX1_odds_40 ?_
          exact g_lret (u := S) F I (by exact ⟨by simp [aOdds, *], mKeep.rf⟩) dX1_odds_43 (by first | exact Nat.le_refl _ | decide) (by first | exact Nat.le_refl _ | decide)
        · refine lv_aload_n F.x F.b dX1_odds_33 rfl (lv_at hl 0 rfl) ?_
          refine m_get (v := nI (L 5 0)) F I 5 (by decide) hS.1 q1160 dX1_odds_34 ?_
          refine n_if_ne (tgt := 44) F (by omega) dX1_odds_37 (by decide) (fun c_37 => ?_) (fun c_37 => ?_)
          · refine lv_aload_n F.x F.b dX1_odds_44 rfl (lv_at hl 0 rfl) ?_
            refine m_geta F I 7 (by decide) q1162 dX1_odds_45 ?_
            refine lv_iload_n F.x F.b dX1_odds_48 rfl (lv_at hl 1 rfl) ?_
            refine m_ld (v := ((S.2 7) (k))) F I 7 (by decide) (show k < 3 by omega) rfl dX1_odds_49 ?_
            refine W.val (y := nI (L 7 k)) (by exact hS.2.2.2.2 k (by omega)) ?_
            refine lv_istore (lv' := [(5, .int (nI (L 7 k))), (0, .ref (o)), (1, .int (nI (k))), (2, .int (nI (j))), (3, .int (nI (i))), (4, .int (z))]) F.x F.b dX1_odds_50 hl (by decide) rfl (fun ls hl => ?_)
            refine lv_iconst (v := nI (0)) F.x F.b dX1_odds_52 (by decide) ?_
            refine lv_istore (lv' := [(6, .int (nI (0))), (5, .int (nI (L 7 k))), (0, .ref (o)), (1, .int (nI (k))), (2, .int (nI (j))), (3, .int (nI (i))), (4, .int (z))]) F.x F.b dX1_odds_53 hl (by decide) rfl (fun ls hl => ?_)
            refine lv_iconst (v := nI (0)) F.x F.b dX1_odds_55 (by decide) ?_
            refine lv_istore (lv' := [(7, .int (nI (0))), (6, .int (nI (0))), (5, .int (nI (L 7 k))), (0, .ref (o)), (1, .int (nI (k))), (2, .int (nI (j))), (3, .int (nI (i))), (4, .int (z))]) F.x F.b dX1_odds_56 hl (by decide) rfl (fun ls hl => ?_)
            refine lv_iconst (v := nI (0)) F.x F.b dX1_odds_58 (by decide) ?_
            refine lv_istore (lv' := [(8, .int (nI (0))), (7, .int (nI (0))), (6, .int (nI (0))), (5, .int (nI (L 7 k))), (0, .ref (o)), (1, .int (nI (k))), (2, .int (nI (j))), (3, .int (nI (i))), (4, .int (z))]) F.x F.b dX1_odds_59 hl (by decide) rfl (fun ls hl => ?_)
            refine W_ind 61 (fun _ => []) (fun n_J => n_J) (fun n_J H locs ls => ∃ (sv : Nat) (S1 : MS), n_J = 256 - sv ∧ (sv ≤ 256) ∧ (mC_7 k S S1) ∧  Iw G A s (mW G o q S1) H locs ∧ lv_has ls 9 [(0, .ref (o)), (1, .int (nI (k))), (2, .int (nI (j))), (3, .int (nI (i))), (4, .int (z)), (5, .int (nI (L 7 k))), (6, .int (nI (cnt (fun n => sbs n (L 7 k) && pBy (lUp L 7 k n) 99 j i) sv))), (7, .int (nI (cnt (fun n => sbs n (L 7 k)) sv))), (8, .int (nI (sv)))]) ?_ _ ⟨0, S, rfl, by omega, by exact mC_7.rf, I, lv_sub hl [4, 5, 6, 7, 8, 3, 2, 1, 0] rfl⟩
            intro n61 H locs ls hJ ih61
            obtain ⟨sv, S1, hn61, hsv, hc, I, hl⟩ := hJ
            refine lv_iload F.x F.b dX1_odds_61 (lv_at hl 8 rfl) ?_
            refine lv_sipush (v := nI (255)) F.x F.b dX1_odds_63 (by decide) ?_
            refine n_icmp_gt (tgt := 115) F (by omega) (by omega) dX1_odds_66 (by decide) (fun c_66 => ?_) (fun c_66 => ?_)
            · have l1 := cnt_le (fun n => sbs n (L 7 k) && pBy (lUp L 7 k n) 99 j i) sv
              have l2 := cnt_le (fun n => sbs n (L 7 k)) sv
              have hpos : 0 < cnt (fun n => sbs n (L 7 k)) sv := by have h9 := oA_pos hL (show k < 3 by omega); rw [oA, ← show sv = 256 by omega] at h9; exact h9
              refine lv_aload_n F.x F.b dX1_odds_115 rfl (lv_at hl 0 rfl) ?_
              refine m_geta F I 7 (by decide) q1162 dX1_odds_116 ?_
              refine lv_iload_n F.x F.b dX1_odds_119 rfl (lv_at hl 1 rfl) ?_
              refine lv_iload F.x F.b dX1_odds_120 (lv_at hl 5 rfl) ?_
              refine m_st F I 7 (by decide) (show k < 3 by omega) dX1_odds_122 (fun H locs (I : Iw G A s (mW G o q (S1.1, va_up S1.2 7 (upd (S1.2 7) (k) (nI (L 7 k))))) H locs) => ?_)
              refine lv_iload F.x F.b dX1_odds_123 (lv_at hl 6 rfl) ?_
              refine lv_i2l (v := lN (cnt (fun n => sbs n (L 7 k) && pBy (lUp L 7 k n) 99 j i) sv)) F.x F.b dX1_odds_125 (nI_l (by omega)) ?_
              refine lv_iload F.x F.b dX1_odds_126 (lv_at hl 7 rfl) ?_
              refine lv_i2l (v := lN (cnt (fun n => sbs n (L 7 k)) sv)) F.x F.b dX1_odds_128 (nI_l (by omega)) ?_
              refine lv_iload F.x F.b dX1_odds_129 (lv_at hl 4 rfl) ?_
              refine g_calll I (g_runS (n := 3) (As := [.long (lN (cnt (fun n => sbs n (L 7 k) && pBy (lUp L 7 k n) 99 j i) sv)), .long (lN (cnt (fun n => sbs n (L 7 k)) sv)), .int (z)]) (rest := []) F I (mt_inLeastTerms l G _ (cnt (fun n => sbs n (L 7 k) && pBy (lUp L 7 k n) 99 j i) sv) (cnt (fun n => sbs n (L 7 k)) sv) (z)  (by omega) (by omega) (by omega) _) q1426 q1427 q56 q1428 hd_mt_inLeastTerms.2 ⟨Nat.le_of_ble_eq_true rfl, Nat.le_of_ble_eq_true rfl⟩ rfl rfl hl.1 rfl (lv_room (Nat.le_of_ble_eq_true rfl)) dX1_odds_131 ⟨by first | exact Nat.le_refl _ | decide, by first | exact Nat.le_refl _ | decide⟩) (fun r u_ H locs hp I => ?_)
              obtain rfl := hp
              exact g_lret (u := (S1.1, va_up S1.2 7 (upd (S1.2 7) (k) (nI (L 7 k))))) F I (by exact ⟨by rw [aOdds, if_pos (by simp [*]), tk, tj, ti, oM, oA, show sv = 256 by omega]; split <;> rfl, hc.done hS (by omega)⟩) dX1_odds_134 (by first | exact Nat.le_refl _ | decide) (by first | exact Nat.le_refl _ | decide)
            · refine lv_iload F.x F.b dX1_odds_69 (lv_at hl 8 rfl) ?_
              refine lv_iload F.x F.b dX1_odds_71 (lv_at hl 5 rfl) ?_
              refine lv_iconst (v := (-1)) F.x F.b dX1_odds_73 (by decide) ?_
              refine lv_ixor (x := (nI (L 7 k))) (y := (-1)) F.x F.b dX1_odds_74 ?_
              refine lv_iand (x := (nI (sv))) (y := ((nI (L 7 k)) ^^^ (-1))) F.x F.b dX1_odds_75 ?_
              refine W_cut (α := Nat) (cells := 0) (slots := 0) 109 (fun _ => []) (fun _ H locs ls => ∃ (S2 : MS), ∃ (a : Nat), ∃ (b : Nat), (mC_7 k S S2) ∧ (cnt (fun n => sbs n (L 7 k) && pBy (lUp L 7 k n) 99 j i) (sv + 1) = a) ∧ (cnt (fun n => sbs n (L 7 k)) (sv + 1) = b) ∧ Iw G A s (mW G o q S2) H locs ∧ lv_has ls 9 [(0, .ref (o)), (1, .int (nI (k))), (2, .int (nI (j))), (3, .int (nI (i))), (4, .int (z)), (5, .int (nI (L 7 k))), (6, .int (nI (a))), (7, .int (nI (b))), (8, .int (nI (sv)))]) (fun J109 => ?_) ?_
              · have hS9 := hc.ld (x := sv) hS
                have l1 := cnt_le (fun n => sbs n (L 7 k) && pBy (lUp L 7 k n) 99 j i) sv
                have l2 := cnt_le (fun n => sbs n (L 7 k)) sv
                refine lv_if_ne (x := ((nI (sv)) &&& ((nI (L 7 k)) ^^^ (-1)))) (tgt := 109) F.x F.b dX1_odds_76 (by decide) (fun c_76 => ?_) (fun c_76 => ?_)
                · exact J109 0 _ _ _ ⟨S1, cnt (fun n => sbs n (L 7 k) && pBy (lUp L 7 k n) 99 j i) sv, cnt (fun n => sbs n (L 7 k)) sv, by first | exact (hc.st _).keep hq92 | exact hc, by first | exact cnt_t (fun n => sbs n (L 7 k) && pBy (lUp L 7 k n) 99 j i) _ (sb_t c_76 c_95) | exact cnt_n (fun n => sbs n (L 7 k) && pBy (lUp L 7 k n) 99 j i) _ (sb_f c_76 c_95) | exact cnt_n (fun n => sbs n (L 7 k) && pBy (lUp L 7 k n) 99 j i) _ (sb_n c_76), by first | exact cnt_t (fun n => sbs n (L 7 k)) _ (decide_eq_true c_76) | exact cnt_n (fun n => sbs n (L 7 k)) _ (decide_eq_false c_76), I, lv_sub hl [0, 1, 2, 3, 4, 5, 6, 7, 8] rfl⟩
                · refine lv_aload_n F.x F.b dX1_odds_79 rfl (lv_at hl 0 rfl) ?_
                  refine m_geta F I 7 (by decide) q1162 dX1_odds_80 ?_
                  refine lv_iload_n F.x F.b dX1_odds_83 rfl (lv_at hl 1 rfl) ?_
                  refine lv_iload F.x F.b dX1_odds_84 (lv_at hl 8 rfl) ?_
                  refine m_st F I 7 (by decide) (show k < 3 by omega) dX1_odds_86 (fun H locs (I : Iw G A s (mW G o q (S1.1, va_up S1.2 7 (upd (S1.2 7) (k) (nI (sv))))) H locs) => ?_)
                  refine lv_iload F.x F.b dX1_odds_87 (lv_at hl 6 rfl) ?_
                  refine lv_aload_n F.x F.b dX1_odds_89 rfl (lv_at hl 0 rfl) ?_
                  refine lv_iload_n F.x F.b dX1_odds_90 rfl (lv_at hl 2 rfl) ?_
                  refine lv_iload_n F.x F.b dX1_odds_91 rfl (lv_at hl 3 rfl) ?_
                  refine g_calli I (g_runV (n := 2) (ci := 0) (q0 := 0) (As := [.int (nI (j)), .int (nI (i))]) (rest := [.int (nI (cnt (fun n => sbs n (L 7 k) && pBy (lUp L 7 k n) 99 j i) sv))]) F I (mt_canBy l G o q ((S1.1, va_up S1.2 7 (upd (S1.2 7) (k) (nI (sv))))) (j) (i) (lUp L 7 k sv) 99 (by exact hL.up7 (by omega)) (by exact hS9) (by exact hms) (by omega) (by omega) _) q1373 q1375 qs45 q56 q1376 hd_mt_canBy ⟨Nat.le_of_ble_eq_true rfl, Nat.le_of_ble_eq_true rfl⟩ rfl rfl rfl rfl hl.1 rfl (lv_room (Nat.le_of_ble_eq_true rfl)) dX1_odds_92 ⟨by first | exact Nat.le_refl _ | decide, by first | exact Nat.le_refl _ | decide⟩) (fun r Z92 H locs hp I => ?_)
                  obtain ⟨rfl, hq92⟩ := hp
                  refine z_eq (tgt := 102) F dX1_odds_95 (by decide) (fun c_95 => ?_) (fun c_95 => ?_)
                  · refine lv_iconst (v := nI (0)) F.x F.b dX1_odds_102 (by decide) ?_
                    refine n_iadd F dX1_odds_103 ?_
                    refine lv_istore (lv' := [(6, .int (nI ((cnt (fun n => sbs n (L 7 k) && pBy (lUp L 7 k n) 99 j i) sv + 0)))), (0, .ref (o)), (1, .int (nI (k))), (2, .int (nI (j))), (3, .int (nI (i))), (4, .int (z)), (5, .int (nI (L 7 k))), (7, .int (nI (cnt (fun n => sbs n (L 7 k)) sv))), (8, .int (nI (sv)))]) F.x F.b dX1_odds_104 hl (by decide) rfl (fun ls hl => ?_)
                    refine lv_iinc (v := nI ((cnt (fun n => sbs n (L 7 k)) sv + 1))) (lv' := [(7, .int (nI ((cnt (fun n => sbs n (L 7 k)) sv + 1)))), (6, .int (nI ((cnt (fun n => sbs n (L 7 k) && pBy (lUp L 7 k n) 99 j i) sv + 0)))), (0, .ref (o)), (1, .int (nI (k))), (2, .int (nI (j))), (3, .int (nI (i))), (4, .int (z)), (5, .int (nI (L 7 k))), (8, .int (nI (sv)))]) F.x F.b dX1_odds_106 hl (k := 7) rfl (nI_1 (cnt (fun n => sbs n (L 7 k)) sv)) (by decide) rfl (fun ls hl => ?_)
                    exact J109 0 _ _ _ ⟨Z92, (cnt (fun n => sbs n (L 7 k) && pBy (lUp L 7 k n) 99 j i) sv + 0), (cnt (fun n => sbs n (L 7 k)) sv + 1), by first | exact (hc.st _).keep hq92 | exact hc, by first | exact cnt_t (fun n => sbs n (L 7 k) && pBy (lUp L 7 k n) 99 j i) _ (sb_t c_76 c_95) | exact cnt_n (fun n => sbs n (L 7 k) && pBy (lUp L 7 k n) 99 j i) _ (sb_f c_76 c_95) | exact cnt_n (fun n => sbs n (L 7 k) && pBy (lUp L 7 k n) 99 j i) _ (sb_n c_76), by first | exact cnt_t (fun n => sbs n (L 7 k)) _ (decide_eq_true c_76) | exact cnt_n (fun n => sbs n (L 7 k)) _ (decide_eq_false c_76), I, lv_sub hl [2, 3, 4, 5, 6, 7, 1, 0, 8] rfl⟩
                  · refine lv_iconst (v := nI (1)) F.x F.b dX1_odds_98 (by decide) ?_
                    refine lv_goto (tgt := 103) F.x F.b dX1_odds_99 (by decide) ?_
                    refine n_iadd F dX1_odds_103 ?_
                    refine lv_istore (lv' := [(6, .int (nI ((cnt (fun n => sbs n (L 7 k) && pBy (lUp L 7 k n) 99 j i) sv + 1)))), (0, .ref (o)), (1, .int (nI (k))), (2, .int (nI (j))), (3, .int (nI (i))), (4, .int (z)), (5, .int (nI (L 7 k))), (7, .int (nI (cnt (fun n => sbs n (L 7 k)) sv))), (8, .int (nI (sv)))]) F.x F.b dX1_odds_104 hl (by decide) rfl (fun ls hl => ?_)
                    refine lv_iinc (v := nI ((cnt (fun n => sbs n (L 7 k)) sv + 1))) (lv' := [(7, .int (nI ((cnt (fun n => sbs n (L 7 k)) sv + 1)))), (6, .int (nI ((cnt (fun n => sbs n (L 7 k) && pBy (lUp L 7 k n) 99 j i) sv + 1)))), (0, .ref (o)), (1, .int (nI (k))), (2, .int (nI (j))), (3, .int (nI (i))), (4, .int (z)), (5, .int (nI (L 7 k))), (8, .int (nI (sv)))]) F.x F.b dX1_odds_106 hl (k := 7) rfl (nI_1 (cnt (fun n => sbs n (L 7 k)) sv)) (by decide) rfl (fun ls hl => ?_)
                    exact J109 0 _ _ _ ⟨Z92, (cnt (fun n => sbs n (L 7 k) && pBy (lUp L 7 k n) 99 j i) sv + 1), (cnt (fun n => sbs n (L 7 k)) sv + 1), by first | exact (hc.st _).keep hq92 | exact hc, by first | exact cnt_t (fun n => sbs n (L 7 k) && pBy (lUp L 7 k n) 99 j i) _ (sb_t c_76 c_95) | exact cnt_n (fun n => sbs n (L 7 k) && pBy (lUp L 7 k n) 99 j i) _ (sb_f c_76 c_95) | exact cnt_n (fun n => sbs n (L 7 k) && pBy (lUp L 7 k n) 99 j i) _ (sb_n c_76), by first | exact cnt_t (fun n => sbs n (L 7 k)) _ (decide_eq_true c_76) | exact cnt_n (fun n => sbs n (L 7 k)) _ (decide_eq_false c_76), I, lv_sub hl [2, 3, 4, 5, 6, 7, 1, 0, 8] rfl⟩
              · intro _ H locs ls hJ
                obtain ⟨S2, a, b, hc, ha, hb, I, hl⟩ := hJ
                subst ha
                subst hb
                refine lv_iinc (v := nI ((sv + 1))) (lv' := [(8, .int (nI ((sv + 1)))), (0, .ref (o)), (1, .int (nI (k))), (2, .int (nI (j))), (3, .int (nI (i))), (4, .int (z)), (5, .int (nI (L 7 k))), (6, .int (nI (cnt (fun n => sbs n (L 7 k) && pBy (lUp L 7 k n) 99 j i) (sv + 1)))), (7, .int (nI (cnt (fun n => sbs n (L 7 k)) (sv + 1))))]) F.x F.b dX1_odds_109 hl (k := 8) rfl (nI_1 (sv)) (by decide) rfl (fun ls hl => ?_)
                refine lv_goto (tgt := 61) F.x F.b dX1_odds_112 (by decide) ?_
                exact ih61 _ _ _ _ (by omega) ⟨sv + 1, S2, rfl, by omega, by exact hc, I, lv_sub hl [1, 2, 3, 4, 5, 6, 7, 8, 0] rfl⟩
          · refine lv_ldc2 (v := -9223372036854775808) F.x F.b F.o (F.t _ q1425) dX1_odds_40 ?_
            exact g_lret (u := S) F I (by exact ⟨by simp [aOdds, *], mKeep.rf⟩) dX1_odds_43 (by first | exact Nat.le_refl _ | decide) (by first | exact Nat.le_refl _ | decide)
