/-! PLAIN LAW, 9, and the reference: ways -/
set_option maxRecDepth 100000
/-- a way as it goes: day, valley, stage, days waited -/
abbrev WS : Type := Nat × Nat × Nat × Nat
def pStep (L : LD) (x : Nat) (t : WS) : Option WS := if t.2.2.1 = 2 then none else if x = 6 then (if t.1 + 1 < 8 then some (t.1 + 1, t.2.1, t.2.2.1, t.2.2.2 + 1) else none)
  else if x = 7 then (if t.2.1 = 1 ∧ t.2.2.1 = 0 ∧ pGv L 1 t.1 = true then some (t.1, t.2.1, 1, t.2.2.2) else none) else if x = 8 then (if t.2.1 = 2 ∧ t.2.2.1 = 1 ∧ pGv L 2 t.1 = true then some (t.1, t.2.1, 2, t.2.2.2) else none)
  else (if pOp L 99 x t.1 = true ∧ pOv L x t.2.1 ≠ 99 ∧ t.1 + pTk L x < 8 then some (t.1 + pTk L x, pOv L x t.2.1, t.2.2.1, t.2.2.2) else none)
def wsOk (t : WS) : Prop := t.1 < 8 ∧ t.2.1 < 3 ∧ t.2.2.1 ≤ 2
theorem pStep_ok {L : LD} (hL : LOk L) {x : Nat} {t u : WS} (hx : x < 6 → x < L 5 0) (h8 : x ≤ 8) (ht : wsOk t) (h : pStep L x t = some u) : wsOk u := by
  unfold pStep at h
  unfold wsOk at *
  by_cases c1 : t.2.2.1 = 2
  · rw [if_pos c1] at h; cases h
  rw [if_neg c1] at h
  by_cases c2 : x = 6
  · rw [if_pos c2] at h
    by_cases c3 : t.1 + 1 < 8
    · rw [if_pos c3] at h; cases h; exact ⟨c3, ht.2.1, ht.2.2⟩
    · rw [if_neg c3] at h; cases h
  rw [if_neg c2] at h
  by_cases c4 : x = 7
  · rw [if_pos c4] at h
    split at h
    · cases h; exact ⟨ht.1, ht.2.1, by show 1 ≤ 2; omega⟩
    · cases h
  rw [if_neg c4] at h
  by_cases c5 : x = 8
  · rw [if_pos c5] at h
    split at h
    · cases h; exact ⟨ht.1, ht.2.1, Nat.le_refl 2⟩
    · cases h
  rw [if_neg c5] at h
  split at h
  · rename_i c6
    cases h
    have := pOv_in (v := t.2.1) hL (hx (by omega))
    exact ⟨c6.2.2, by show pOv L x t.2.1 < 3; omega, ht.2.2⟩
  · cases h
def pRun (L : LD) (f : Nat → Nat) (t : WS) : Nat → Option WS
  | 0 => some t
  | k + 1 => (pRun L f t k).bind (pStep L (f k))
/-- the first step that can't be; 99: none -/
def pWr (L : LD) (g : Bool) (f : Nat → Nat) (t : WS) : Nat → Nat
  | 0 => 99
  | k + 1 => if pWr L g f t k = 99 then (if g = true ∧ (pRun L f t (k + 1)).isSome = true then 99 else k) else pWr L g f t k
def wAns (w : Int32) (t : WS) : Int32 := if w = 0 then nI t.1 else if w = 2 then nI t.2.2.2 else if w = 3 then nI t.2.1 else nI t.2.2.1
def aWay1 (L : LD) (d : Nat) (f : Nat → Nat) (n : Nat) (w : Int32) : Int32 := if w = 1 then eN (pWr L (pGv L 0 d) f (d, 0, 0, 0) n) else if pWr L (pGv L 0 d) f (d, 0, 0, 0) n = 99 then wAns w ((pRun L f (d, 0, 0, 0) n).getD (0, 0, 0, 0)) else -100 - nI (pWr L (pGv L 0 d) f (d, 0, 0, 0) n)
def bar (L : LD) (f : Nat → Int32) : Nat → Int32
  | 0 => 0
  | k + 1 => if bar L f k = 0 then (if mWi (f k) 0 8 then (if f k < 6 ∧ pvP L (f k) = false then -1 else 0) else -2) else bar L f k
def aWay (L : LD) (C : Nat → Nat → Int32) (x v y z u w : Int32) : Int32 := if mWi x 0 7 then (if mWi v 0 3 then (if mWi y 0 2 && (mWi u 0 20 && mWi w 0 4) then (if agn L v.toNatClampNeg y z u = 0 then (if L 5 0 = 0 then -3 else if bar L (tx C v.toNatClampNeg z.toNatClampNeg) u.toNatClampNeg = 0 then aWay1 L x.toNatClampNeg (fun t => (tx C v.toNatClampNeg z.toNatClampNeg t).toNatClampNeg) u.toNatClampNeg w else bar L (tx C v.toNatClampNeg z.toNatClampNeg) u.toNatClampNeg) else -10 - agn L v.toNatClampNeg y z u) else -2) else -1) else -2
def fWay (L : LD) (x v y z u w : Int32) : Int32 := if mWi x 0 7 && (mWi v 0 3 && (mWi y 0 2 && (mWi u 0 20 && mWi w 0 4))) then agn L v.toNatClampNeg y z u else 0
theorem bar_f {L : LD} {f : Nat → Int32} {k : Nat} {x : Int32} (h : bar L f k = x) (hx : x ≠ 0) : ∀ n, k ≤ n → bar L f n = x
  | 0, hk => by rw [show k = 0 by omega] at h; exact h
  | n + 1, hk => by
    rcases Nat.lt_or_ge k (n + 1) with h1 | h1
    · have := bar_f h hx n (by omega)
      rw [bar, if_neg (by rw [this]; exact hx), this]
    · rw [show n + 1 = k by omega]; exact h
theorem pWr_some {L : LD} {g : Bool} {f : Nat → Nat} {t : WS} : ∀ k, pWr L g f t k = 99 → k ≤ 90 → (pRun L f t k).isSome = true ∧ (0 < k → g = true)
  | 0, _, _ => ⟨rfl, fun h => absurd h (Nat.lt_irrefl _)⟩
  | k + 1, h, hk => by
    unfold pWr at h
    split at h
    · split at h
      · rename_i c; exact ⟨c.2, fun _ => c.1⟩
      · omega
    · rename_i c; exact absurd h c
theorem pWr_le {L : LD} {g : Bool} {f : Nat → Nat} {t : WS} : ∀ k, pWr L g f t k = 99 ∨ pWr L g f t k < k
  | 0 => Or.inl rfl
  | k + 1 => by
    have := pWr_le (L := L) (g := g) (f := f) (t := t) k
    unfold pWr; split
    · split <;> omega
    · omega
/-- the way as the reference holds it -/
def mWy (S : MS) (t : WS) : Prop := S.1 22 = nI t.1 ∧ S.1 23 = nI t.2.1 ∧ S.1 24 = nI t.2.2.1 ∧ S.1 25 = nI t.2.2.2

theorem hd_mt_goStep : yX1_goStep.cls = RX1 ∧ yX1_goStep.cls ≠ "java/lang/invoke/MethodHandle" ∧ yX1_goStep.cls ≠ "java/lang/invoke/VarHandle" ∧ (parseMethodDescriptor yX1_goStep.desc).map (fun d => d.parameters.length) = some 1 := by decide +kernel
set_option maxHeartbeats 4000000 in
theorem mt_goStep (l : Launch) (G : gG) (o : Nat) (q : Nat → Nat) (S : MS) (x : Nat) (L : LD) (d v g h : Nat) (hL : LOk L) (hS : mLd S L 99) (hw : mWy S (d, v, g, h)) (hok : wsOk (d, v, g, h)) (hx : x < 6 → x < L 5 0) (h8 : x ≤ 8) : gMi l yX1_goStep cX1_goStep 3 (some .boolean) ({ frames := 1, cells := 0, slots := 0, locals := 22 } : Room) G [.ref o, .int (nI (x))] (mW G o q S) (fun S' => mW G o q S') (fun ρ S' => (∃ d' v' g' h', pStep L x (d, v, g, h) = some (d', v', g', h') ∧ bI true = ρ ∧ mWy S' (d', v', g', h') ∧ mKeep S S') ∨ (pStep L x (d, v, g, h) = none ∧ bI false = ρ ∧ mKeep S S')) := by
  refine gMi_of (by decide) (Nat.le_of_ble_eq_true rfl) ?_
  intro p e s m below meth c ls A F I hl
  have hl : lv_has ls 3 [(0, .ref (o)), (1, .int (nI (x)))] := hl
  have hms : 99 < 100 := by decide
  have hd8 : d < 8 := hok.1
  have hv3 : v < 3 := hok.2.1
  have hg2 : g ≤ 2 := hok.2.2
  have hL5 := hL.1
  refine lv_aload_n F.x F.b dX1_goStep_0 rfl (lv_at hl 0 rfl) ?_
  refine m_get (v := (S.1 24)) F I 24 (by decide) rfl q1179 dX1_goStep_1 ?_
  refine W.val (y := nI (g)) (by exact hw.2.2.1) ?_
  refine lv_iconst (v := nI (2)) F.x F.b dX1_goStep_4 (by decide) ?_
  refine n_icmp_ne (tgt := 10) F (by omega) (by omega) dX1_goStep_5 (by decide) (fun c_5 => ?_) (fun c_5 => ?_)
  · refine lv_iload_n F.x F.b dX1_goStep_10 rfl (lv_at hl 1 rfl) ?_
    refine lv_bipush (v := nI (6)) F.x F.b dX1_goStep_11 (by decide) ?_
    refine n_icmp_ne (tgt := 51) F (by omega) (by omega) dX1_goStep_13 (by decide) (fun c_13 => ?_) (fun c_13 => ?_)
    · refine lv_iload_n F.x F.b dX1_goStep_51 rfl (lv_at hl 1 rfl) ?_
      refine lv_bipush (v := nI (7)) F.x F.b dX1_goStep_52 (by decide) ?_
      refine n_icmp_ne (tgt := 97) F (by omega) (by omega) dX1_goStep_54 (by decide) (fun c_54 => ?_) (fun c_54 => ?_)
      · refine lv_iload_n F.x F.b dX1_goStep_97 rfl (lv_at hl 1 rfl) ?_
        refine lv_bipush (v := nI (8)) F.x F.b dX1_goStep_98 (by decide) ?_
        refine n_icmp_ne (tgt := 144) F (by omega) (by omega) dX1_goStep_100 (by decide) (fun c_100 => ?_) (fun c_100 => ?_)
        · have hxp := hx (by omega)
          have htk := pTk_in hL hxp
          have hov := pOv_in (v := v) hL hxp
          refine lv_aload_n F.x F.b dX1_goStep_144 rfl (lv_at hl 0 rfl) ?_
          refine lv_iload_n F.x F.b dX1_goStep_145 rfl (lv_at hl 1 rfl) ?_
          refine lv_aload_n F.x F.b dX1_goStep_146 rfl (lv_at hl 0 rfl) ?_
          refine m_get (v := (S.1 22)) F I 22 (by decide) rfl q1177 dX1_goStep_147 ?_
          refine W.val (y := nI (d)) (by exact hw.1) ?_
          refine g_calli I (g_runV (n := 2) (ci := 0) (q0 := 0) (As := [.int (nI (x)), .int (nI (d))]) (rest := []) F I (mt_isOpenA l G o q (S) (x) (d) L 99 (by exact hL) (by exact hS) (by exact hms) (by omega) (by omega) _) q1318 q1320 qs36 q56 q1321 hd_mt_isOpen ⟨Nat.le_of_ble_eq_true rfl, Nat.le_of_ble_eq_true rfl⟩ rfl rfl rfl rfl hl.1 rfl (lv_room (Nat.le_of_ble_eq_true rfl)) dX1_goStep_150 ⟨by first | exact Nat.le_refl _ | decide, by first | exact Nat.le_refl _ | decide⟩) (fun r u_ H locs hp I => ?_)
          obtain ⟨rfl, rfl⟩ := hp
          refine z_eq (tgt := 185) F dX1_goStep_153 (by decide) (fun c_153 => ?_) (fun c_153 => ?_)
          · refine lv_iconst (v := nI (0)) F.x F.b dX1_goStep_185 (by decide) ?_
            exact g_zret (u := S) F I (by first | exact bI_01 _ | exact Or.inl rfl | exact Or.inr rfl) (by exact Or.inr ⟨by unfold pStep; rw [if_neg c_5, if_neg (show ¬ x = 6 from c_13), if_neg (show ¬ x = 7 from c_54), if_neg (show ¬ x = 8 from c_100), if_neg (fun z9 => by rw [c_153] at z9; exact absurd z9.1 (by decide))], rfl, by exact ⟨rfl, rfl, rfl, rfl, rfl, rfl, rfl, rfl, rfl, rfl, rfl, rfl, rfl, rfl, rfl, rfl, rfl⟩⟩) dX1_goStep_186 (by first | exact Nat.le_refl _ | decide) (by first | exact Nat.le_refl _ | decide)
          · refine lv_aload_n F.x F.b dX1_goStep_156 rfl (lv_at hl 0 rfl) ?_
            refine lv_iload_n F.x F.b dX1_goStep_157 rfl (lv_at hl 1 rfl) ?_
            refine lv_aload_n F.x F.b dX1_goStep_158 rfl (lv_at hl 0 rfl) ?_
            refine m_get (v := (S.1 23)) F I 23 (by decide) rfl q1178 dX1_goStep_159 ?_
            refine W.val (y := nI (v)) (by exact hw.2.1) ?_
            refine g_calli I (g_runV (n := 2) (ci := 0) (q0 := 0) (As := [.int (nI (x)), .int (nI (v))]) (rest := []) F I (mt_overA l G o q (S) (x) (v) L 99 (by exact hL) (by exact hS) (by omega) (by omega) _) q1349 q1351 qs42 q56 q1352 hd_mt_over ⟨Nat.le_of_ble_eq_true rfl, Nat.le_of_ble_eq_true rfl⟩ rfl rfl rfl rfl hl.1 rfl (lv_room (Nat.le_of_ble_eq_true rfl)) dX1_goStep_162 ⟨by first | exact Nat.le_refl _ | decide, by first | exact Nat.le_refl _ | decide⟩) (fun r u_ H locs hp I => ?_)
            obtain ⟨rfl, rfl⟩ := hp
            refine lv_bipush (v := (-9)) F.x F.b dX1_goStep_165 (by decide) ?_
            refine e9_eq (tgt := 185) F (by omega) dX1_goStep_167 (by decide) (fun c_167 => ?_) (fun c_167 => ?_)
            · refine lv_iconst (v := nI (0)) F.x F.b dX1_goStep_185 (by decide) ?_
              exact g_zret (u := S) F I (by first | exact bI_01 _ | exact Or.inl rfl | exact Or.inr rfl) (by exact Or.inr ⟨by unfold pStep; rw [if_neg c_5, if_neg (show ¬ x = 6 from c_13), if_neg (show ¬ x = 7 from c_54), if_neg (show ¬ x = 8 from c_100), if_neg (fun z9 => by exact z9.2.1 c_167)], rfl, by exact ⟨rfl, rfl, rfl, rfl, rfl, rfl, rfl, rfl, rfl, rfl, rfl, rfl, rfl, rfl, rfl, rfl, rfl⟩⟩) dX1_goStep_186 (by first | exact Nat.le_refl _ | decide) (by first | exact Nat.le_refl _ | decide)
            · refine lv_aload_n F.x F.b dX1_goStep_170 rfl (lv_at hl 0 rfl) ?_
              refine m_get (v := (S.1 22)) F I 22 (by decide) rfl q1177 dX1_goStep_171 ?_
              refine W.val (y := nI (d)) (by exact hw.1) ?_
              refine lv_aload_n F.x F.b dX1_goStep_174 rfl (lv_at hl 0 rfl) ?_
              refine lv_iload_n F.x F.b dX1_goStep_175 rfl (lv_at hl 1 rfl) ?_
              refine g_calli I (g_runV (n := 1) (ci := 0) (q0 := 0) (As := [.int (nI (x))]) (rest := [.int (nI (d))]) F I (mt_takesA l G o q (S) (x) L 99 (by exact hL) (by exact hS) (by omega) _) q1296 q1298 qs35 q56 q1299 hd_mt_takes ⟨Nat.le_of_ble_eq_true rfl, Nat.le_of_ble_eq_true rfl⟩ rfl rfl rfl rfl hl.1 rfl (lv_room (Nat.le_of_ble_eq_true rfl)) dX1_goStep_176 ⟨by first | exact Nat.le_refl _ | decide, by first | exact Nat.le_refl _ | decide⟩) (fun r u_ H locs hp I => ?_)
              obtain ⟨rfl, rfl⟩ := hp
              refine n_iadd F dX1_goStep_179 ?_
              refine lv_bipush (v := nI (8)) F.x F.b dX1_goStep_180 (by decide) ?_
              refine n_icmp_lt (tgt := 187) F (by omega) (by omega) dX1_goStep_182 (by decide) (fun c_182 => ?_) (fun c_182 => ?_)
              · refine lv_aload_n F.x F.b dX1_goStep_187 rfl (lv_at hl 0 rfl) ?_
                refine lv_dup F.x F.b dX1_goStep_188 rfl ?_
                refine m_get (v := (S.1 22)) F I 22 (by decide) rfl q1177 dX1_goStep_189 ?_
                refine W.val (y := nI (d)) (by exact hw.1) ?_
                refine lv_aload_n F.x F.b dX1_goStep_192 rfl (lv_at hl 0 rfl) ?_
                refine lv_iload_n F.x F.b dX1_goStep_193 rfl (lv_at hl 1 rfl) ?_
                refine g_calli I (g_runV (n := 1) (ci := 0) (q0 := 0) (As := [.int (nI (x))]) (rest := [.int (nI (d)), .ref (o)]) F I (mt_takesA l G o q (S) (x) L 99 (by exact hL) (by exact hS) (by omega) _) q1296 q1298 qs35 q56 q1299 hd_mt_takes ⟨Nat.le_of_ble_eq_true rfl, Nat.le_of_ble_eq_true rfl⟩ rfl rfl rfl rfl hl.1 rfl (lv_room (Nat.le_of_ble_eq_true rfl)) dX1_goStep_194 ⟨by first | exact Nat.le_refl _ | decide, by first | exact Nat.le_refl _ | decide⟩) (fun r u_ H locs hp I => ?_)
                obtain ⟨rfl, rfl⟩ := hp
                refine n_iadd F dX1_goStep_197 ?_
                refine m_put F I 22 (by decide) q1177 dX1_goStep_198 (fun H locs (I : Iw G A s (mW G o q (va_up S.1 22 ((nI ((d + pTk L x)))), S.2)) H locs) => ?_)
                refine lv_aload_n F.x F.b dX1_goStep_201 rfl (lv_at hl 0 rfl) ?_
                refine lv_aload_n F.x F.b dX1_goStep_202 rfl (lv_at hl 0 rfl) ?_
                refine lv_iload_n F.x F.b dX1_goStep_203 rfl (lv_at hl 1 rfl) ?_
                refine lv_aload_n F.x F.b dX1_goStep_204 rfl (lv_at hl 0 rfl) ?_
                refine m_get (v := (S.1 23)) F I 23 (by decide) rfl q1178 dX1_goStep_205 ?_
                refine W.val (y := nI (v)) (by exact hw.2.1) ?_
                refine g_calli I (g_runV (n := 2) (ci := 0) (q0 := 0) (As := [.int (nI (x)), .int (nI (v))]) (rest := [.ref (o)]) F I (mt_overA l G o q ((va_up S.1 22 ((nI ((d + pTk L x)))), S.2)) (x) (v) L 99 (by exact hL) (by exact hS) (by omega) (by omega) _) q1349 q1351 qs42 q56 q1352 hd_mt_over ⟨Nat.le_of_ble_eq_true rfl, Nat.le_of_ble_eq_true rfl⟩ rfl rfl rfl rfl hl.1 rfl (lv_room (Nat.le_of_ble_eq_true rfl)) dX1_goStep_208 ⟨by first | exact Nat.le_refl _ | decide, by first | exact Nat.le_refl _ | decide⟩) (fun r u_ H locs hp I => ?_)
                obtain ⟨rfl, rfl⟩ := hp
                refine W.val (y := nI (pOv L x v)) (by exact eN_i c_167) ?_
                refine m_put F I 23 (by decide) q1178 dX1_goStep_211 (fun H locs (I : Iw G A s (mW G o q (va_up (va_up S.1 22 ((nI ((d + pTk L x))))) 23 ((nI (pOv L x v))), S.2)) H locs) => ?_)
                refine lv_iconst (v := nI (1)) F.x F.b dX1_goStep_214 (by decide) ?_
                exact g_zret (u := (va_up (va_up S.1 22 ((nI ((d + pTk L x))))) 23 ((nI (pOv L x v))), S.2)) F I (by first | exact bI_01 _ | exact Or.inl rfl | exact Or.inr rfl) (by exact Or.inl ⟨d + pTk L x, pOv L x v, g, h, by unfold pStep; rw [if_neg c_5, if_neg (show ¬ x = 6 from c_13), if_neg (show ¬ x = 7 from c_54), if_neg (show ¬ x = 8 from c_100), if_pos ⟨c_153, c_167, c_182⟩], rfl, ⟨rfl, rfl, hw.2.2.1, hw.2.2.2⟩, by exact ⟨rfl, rfl, rfl, rfl, rfl, rfl, rfl, rfl, rfl, rfl, rfl, rfl, rfl, rfl, rfl, rfl, rfl⟩⟩) dX1_goStep_215 (by first | exact Nat.le_refl _ | decide) (by first | exact Nat.le_refl _ | decide)
              · refine lv_iconst (v := nI (0)) F.x F.b dX1_goStep_185 (by decide) ?_
                exact g_zret (u := S) F I (by first | exact bI_01 _ | exact Or.inl rfl | exact Or.inr rfl) (by exact Or.inr ⟨by unfold pStep; rw [if_neg c_5, if_neg (show ¬ x = 6 from c_13), if_neg (show ¬ x = 7 from c_54), if_neg (show ¬ x = 8 from c_100), if_neg (fun z9 => by have z8 : d + pTk L x < 8 := z9.2.2; omega)], rfl, by exact ⟨rfl, rfl, rfl, rfl, rfl, rfl, rfl, rfl, rfl, rfl, rfl, rfl, rfl, rfl, rfl, rfl, rfl⟩⟩) dX1_goStep_186 (by first | exact Nat.le_refl _ | decide) (by first | exact Nat.le_refl _ | decide)
        · refine lv_aload_n F.x F.b dX1_goStep_103 rfl (lv_at hl 0 rfl) ?_
          refine m_get (v := (S.1 23)) F I 23 (by decide) rfl q1178 dX1_goStep_104 ?_
          refine W.val (y := nI (v)) (by exact hw.2.1) ?_
          refine lv_iconst (v := nI (2)) F.x F.b dX1_goStep_107 (by decide) ?_
          refine n_icmp_ne (tgt := 135) F (by omega) (by omega) dX1_goStep_108 (by decide) (fun c_108 => ?_) (fun c_108 => ?_)
          · refine lv_iconst (v := nI (0)) F.x F.b dX1_goStep_135 (by decide) ?_
            refine lv_istore_n (lv' := [(2, .int (nI (0))), (0, .ref (o)), (1, .int (nI (x)))]) F.x F.b dX1_goStep_136 rfl hl (by decide) rfl (fun ls hl => ?_)
            refine lv_aload_n F.x F.b dX1_goStep_137 rfl (lv_at hl 1 rfl) ?_
            refine lv_iconst (v := nI (2)) F.x F.b dX1_goStep_138 (by decide) ?_
            refine m_put F I 24 (by decide) q1179 dX1_goStep_139 (fun H locs (I : Iw G A s (mW G o q (va_up S.1 24 (2), S.2)) H locs) => ?_)
            refine lv_iload_n F.x F.b dX1_goStep_142 rfl (lv_at hl 0 rfl) ?_
            exact g_zret (u := (va_up S.1 24 (2), S.2)) F I (by first | exact bI_01 _ | exact Or.inl rfl | exact Or.inr rfl) (by exact Or.inr ⟨by unfold pStep; rw [if_neg c_5, if_neg (show ¬ x = 6 from c_13), if_neg (show ¬ x = 7 from c_54), if_pos c_100, if_neg (fun z9 => by exact c_108 z9.1)], rfl, by exact ⟨rfl, rfl, rfl, rfl, rfl, rfl, rfl, rfl, rfl, rfl, rfl, rfl, rfl, rfl, rfl, rfl, rfl⟩⟩) dX1_goStep_143 (by first | exact Nat.le_refl _ | decide) (by first | exact Nat.le_refl _ | decide)
          · refine lv_aload_n F.x F.b dX1_goStep_111 rfl (lv_at hl 0 rfl) ?_
            refine m_get (v := (S.1 24)) F I 24 (by decide) rfl q1179 dX1_goStep_112 ?_
            refine W.val (y := nI (g)) (by exact hw.2.2.1) ?_
            refine lv_iconst (v := nI (1)) F.x F.b dX1_goStep_115 (by decide) ?_
            refine n_icmp_ne (tgt := 135) F (by omega) (by omega) dX1_goStep_116 (by decide) (fun c_116 => ?_) (fun c_116 => ?_)
            · refine lv_iconst (v := nI (0)) F.x F.b dX1_goStep_135 (by decide) ?_
              refine lv_istore_n (lv' := [(2, .int (nI (0))), (0, .ref (o)), (1, .int (nI (x)))]) F.x F.b dX1_goStep_136 rfl hl (by decide) rfl (fun ls hl => ?_)
              refine lv_aload_n F.x F.b dX1_goStep_137 rfl (lv_at hl 1 rfl) ?_
              refine lv_iconst (v := nI (2)) F.x F.b dX1_goStep_138 (by decide) ?_
              refine m_put F I 24 (by decide) q1179 dX1_goStep_139 (fun H locs (I : Iw G A s (mW G o q (va_up S.1 24 (2), S.2)) H locs) => ?_)
              refine lv_iload_n F.x F.b dX1_goStep_142 rfl (lv_at hl 0 rfl) ?_
              exact g_zret (u := (va_up S.1 24 (2), S.2)) F I (by first | exact bI_01 _ | exact Or.inl rfl | exact Or.inr rfl) (by exact Or.inr ⟨by unfold pStep; rw [if_neg c_5, if_neg (show ¬ x = 6 from c_13), if_neg (show ¬ x = 7 from c_54), if_pos c_100, if_neg (fun z9 => by exact c_116 z9.2.1)], rfl, by exact ⟨rfl, rfl, rfl, rfl, rfl, rfl, rfl, rfl, rfl, rfl, rfl, rfl, rfl, rfl, rfl, rfl, rfl⟩⟩) dX1_goStep_143 (by first | exact Nat.le_refl _ | decide) (by first | exact Nat.le_refl _ | decide)
            · refine lv_aload_n F.x F.b dX1_goStep_119 rfl (lv_at hl 0 rfl) ?_
              refine lv_iconst (v := nI (2)) F.x F.b dX1_goStep_120 (by decide) ?_
              refine lv_aload_n F.x F.b dX1_goStep_121 rfl (lv_at hl 0 rfl) ?_
              refine m_get (v := (S.1 22)) F I 22 (by decide) rfl q1177 dX1_goStep_122 ?_
              refine W.val (y := nI (d)) (by exact hw.1) ?_
              refine g_calli I (g_runV (n := 2) (ci := 0) (q0 := 0) (As := [.int (nI (2)), .int (nI (d))]) (rest := []) F I (mt_doesGiveA l G o q (S) (2) (d) L 99 (by exact hL) (by exact hS) (by omega) (by omega) _) q1334 q1336 qs39 q56 q1337 hd_mt_doesGive ⟨Nat.le_of_ble_eq_true rfl, Nat.le_of_ble_eq_true rfl⟩ rfl rfl rfl rfl hl.1 rfl (lv_room (Nat.le_of_ble_eq_true rfl)) dX1_goStep_125 ⟨by first | exact Nat.le_refl _ | decide, by first | exact Nat.le_refl _ | decide⟩) (fun r u_ H locs hp I => ?_)
              obtain ⟨rfl, rfl⟩ := hp
              refine z_eq (tgt := 135) F dX1_goStep_128 (by decide) (fun c_128 => ?_) (fun c_128 => ?_)
              · refine lv_iconst (v := nI (0)) F.x F.b dX1_goStep_135 (by decide) ?_
                refine lv_istore_n (lv' := [(2, .int (nI (0))), (0, .ref (o)), (1, .int (nI (x)))]) F.x F.b dX1_goStep_136 rfl hl (by decide) rfl (fun ls hl => ?_)
                refine lv_aload_n F.x F.b dX1_goStep_137 rfl (lv_at hl 1 rfl) ?_
                refine lv_iconst (v := nI (2)) F.x F.b dX1_goStep_138 (by decide) ?_
                refine m_put F I 24 (by decide) q1179 dX1_goStep_139 (fun H locs (I : Iw G A s (mW G o q (va_up S.1 24 (2), S.2)) H locs) => ?_)
                refine lv_iload_n F.x F.b dX1_goStep_142 rfl (lv_at hl 0 rfl) ?_
                exact g_zret (u := (va_up S.1 24 (2), S.2)) F I (by first | exact bI_01 _ | exact Or.inl rfl | exact Or.inr rfl) (by exact Or.inr ⟨by unfold pStep; rw [if_neg c_5, if_neg (show ¬ x = 6 from c_13), if_neg (show ¬ x = 7 from c_54), if_pos c_100, if_neg (fun z9 => by rw [c_128] at z9; exact absurd z9.2.2 (by decide))], rfl, by exact ⟨rfl, rfl, rfl, rfl, rfl, rfl, rfl, rfl, rfl, rfl, rfl, rfl, rfl, rfl, rfl, rfl, rfl⟩⟩) dX1_goStep_143 (by first | exact Nat.le_refl _ | decide) (by first | exact Nat.le_refl _ | decide)
              · refine lv_iconst (v := nI (1)) F.x F.b dX1_goStep_131 (by decide) ?_
                refine lv_goto (tgt := 136) F.x F.b dX1_goStep_132 (by decide) ?_
                refine lv_istore_n (lv' := [(2, .int (nI (1))), (0, .ref (o)), (1, .int (nI (x)))]) F.x F.b dX1_goStep_136 rfl hl (by decide) rfl (fun ls hl => ?_)
                refine lv_aload_n F.x F.b dX1_goStep_137 rfl (lv_at hl 1 rfl) ?_
                refine lv_iconst (v := nI (2)) F.x F.b dX1_goStep_138 (by decide) ?_
                refine m_put F I 24 (by decide) q1179 dX1_goStep_139 (fun H locs (I : Iw G A s (mW G o q (va_up S.1 24 (2), S.2)) H locs) => ?_)
                refine lv_iload_n F.x F.b dX1_goStep_142 rfl (lv_at hl 0 rfl) ?_
                exact g_zret (u := (va_up S.1 24 (2), S.2)) F I (by first | exact bI_01 _ | exact Or.inl rfl | exact Or.inr rfl) (by exact Or.inl ⟨d, v, 2, h, by unfold pStep; rw [if_neg c_5, if_neg (show ¬ x = 6 from c_13), if_neg (show ¬ x = 7 from c_54), if_pos c_100, if_pos ⟨c_108, c_116, c_128⟩], rfl, ⟨hw.1, hw.2.1, rfl, hw.2.2.2⟩, by exact ⟨rfl, rfl, rfl, rfl, rfl, rfl, rfl, rfl, rfl, rfl, rfl, rfl, rfl, rfl, rfl, rfl, rfl⟩⟩) dX1_goStep_143 (by first | exact Nat.le_refl _ | decide) (by first | exact Nat.le_refl _ | decide)
      · refine lv_aload_n F.x F.b dX1_goStep_57 rfl (lv_at hl 0 rfl) ?_
        refine m_get (v := (S.1 23)) F I 23 (by decide) rfl q1178 dX1_goStep_58 ?_
        refine W.val (y := nI (v)) (by exact hw.2.1) ?_
        refine lv_iconst (v := nI (1)) F.x F.b dX1_goStep_61 (by decide) ?_
        refine n_icmp_ne (tgt := 88) F (by omega) (by omega) dX1_goStep_62 (by decide) (fun c_62 => ?_) (fun c_62 => ?_)
        · refine lv_iconst (v := nI (0)) F.x F.b dX1_goStep_88 (by decide) ?_
          refine lv_istore_n (lv' := [(2, .int (nI (0))), (0, .ref (o)), (1, .int (nI (x)))]) F.x F.b dX1_goStep_89 rfl hl (by decide) rfl (fun ls hl => ?_)
          refine lv_aload_n F.x F.b dX1_goStep_90 rfl (lv_at hl 1 rfl) ?_
          refine lv_iconst (v := nI (1)) F.x F.b dX1_goStep_91 (by decide) ?_
          refine m_put F I 24 (by decide) q1179 dX1_goStep_92 (fun H locs (I : Iw G A s (mW G o q (va_up S.1 24 (1), S.2)) H locs) => ?_)
          refine lv_iload_n F.x F.b dX1_goStep_95 rfl (lv_at hl 0 rfl) ?_
          exact g_zret (u := (va_up S.1 24 (1), S.2)) F I (by first | exact bI_01 _ | exact Or.inl rfl | exact Or.inr rfl) (by exact Or.inr ⟨by unfold pStep; rw [if_neg c_5, if_neg (show ¬ x = 6 from c_13), if_pos c_54, if_neg (fun z9 => by exact c_62 z9.1)], rfl, by exact ⟨rfl, rfl, rfl, rfl, rfl, rfl, rfl, rfl, rfl, rfl, rfl, rfl, rfl, rfl, rfl, rfl, rfl⟩⟩) dX1_goStep_96 (by first | exact Nat.le_refl _ | decide) (by first | exact Nat.le_refl _ | decide)
        · refine lv_aload_n F.x F.b dX1_goStep_65 rfl (lv_at hl 0 rfl) ?_
          refine m_get (v := (S.1 24)) F I 24 (by decide) rfl q1179 dX1_goStep_66 ?_
          refine W.val (y := nI (g)) (by exact hw.2.2.1) ?_
          refine n_if_ne (tgt := 88) F (by omega) dX1_goStep_69 (by decide) (fun c_69 => ?_) (fun c_69 => ?_)
          · refine lv_iconst (v := nI (0)) F.x F.b dX1_goStep_88 (by decide) ?_
            refine lv_istore_n (lv' := [(2, .int (nI (0))), (0, .ref (o)), (1, .int (nI (x)))]) F.x F.b dX1_goStep_89 rfl hl (by decide) rfl (fun ls hl => ?_)
            refine lv_aload_n F.x F.b dX1_goStep_90 rfl (lv_at hl 1 rfl) ?_
            refine lv_iconst (v := nI (1)) F.x F.b dX1_goStep_91 (by decide) ?_
            refine m_put F I 24 (by decide) q1179 dX1_goStep_92 (fun H locs (I : Iw G A s (mW G o q (va_up S.1 24 (1), S.2)) H locs) => ?_)
            refine lv_iload_n F.x F.b dX1_goStep_95 rfl (lv_at hl 0 rfl) ?_
            exact g_zret (u := (va_up S.1 24 (1), S.2)) F I (by first | exact bI_01 _ | exact Or.inl rfl | exact Or.inr rfl) (by exact Or.inr ⟨by unfold pStep; rw [if_neg c_5, if_neg (show ¬ x = 6 from c_13), if_pos c_54, if_neg (fun z9 => by exact c_69 z9.2.1)], rfl, by exact ⟨rfl, rfl, rfl, rfl, rfl, rfl, rfl, rfl, rfl, rfl, rfl, rfl, rfl, rfl, rfl, rfl, rfl⟩⟩) dX1_goStep_96 (by first | exact Nat.le_refl _ | decide) (by first | exact Nat.le_refl _ | decide)
          · refine lv_aload_n F.x F.b dX1_goStep_72 rfl (lv_at hl 0 rfl) ?_
            refine lv_iconst (v := nI (1)) F.x F.b dX1_goStep_73 (by decide) ?_
            refine lv_aload_n F.x F.b dX1_goStep_74 rfl (lv_at hl 0 rfl) ?_
            refine m_get (v := (S.1 22)) F I 22 (by decide) rfl q1177 dX1_goStep_75 ?_
            refine W.val (y := nI (d)) (by exact hw.1) ?_
            refine g_calli I (g_runV (n := 2) (ci := 0) (q0 := 0) (As := [.int (nI (1)), .int (nI (d))]) (rest := []) F I (mt_doesGiveA l G o q (S) (1) (d) L 99 (by exact hL) (by exact hS) (by omega) (by omega) _) q1334 q1336 qs39 q56 q1337 hd_mt_doesGive ⟨Nat.le_of_ble_eq_true rfl, Nat.le_of_ble_eq_true rfl⟩ rfl rfl rfl rfl hl.1 rfl (lv_room (Nat.le_of_ble_eq_true rfl)) dX1_goStep_78 ⟨by first | exact Nat.le_refl _ | decide, by first | exact Nat.le_refl _ | decide⟩) (fun r u_ H locs hp I => ?_)
            obtain ⟨rfl, rfl⟩ := hp
            refine z_eq (tgt := 88) F dX1_goStep_81 (by decide) (fun c_81 => ?_) (fun c_81 => ?_)
            · refine lv_iconst (v := nI (0)) F.x F.b dX1_goStep_88 (by decide) ?_
              refine lv_istore_n (lv' := [(2, .int (nI (0))), (0, .ref (o)), (1, .int (nI (x)))]) F.x F.b dX1_goStep_89 rfl hl (by decide) rfl (fun ls hl => ?_)
              refine lv_aload_n F.x F.b dX1_goStep_90 rfl (lv_at hl 1 rfl) ?_
              refine lv_iconst (v := nI (1)) F.x F.b dX1_goStep_91 (by decide) ?_
              refine m_put F I 24 (by decide) q1179 dX1_goStep_92 (fun H locs (I : Iw G A s (mW G o q (va_up S.1 24 (1), S.2)) H locs) => ?_)
              refine lv_iload_n F.x F.b dX1_goStep_95 rfl (lv_at hl 0 rfl) ?_
              exact g_zret (u := (va_up S.1 24 (1), S.2)) F I (by first | exact bI_01 _ | exact Or.inl rfl | exact Or.inr rfl) (by exact Or.inr ⟨by unfold pStep; rw [if_neg c_5, if_neg (show ¬ x = 6 from c_13), if_pos c_54, if_neg (fun z9 => by rw [c_81] at z9; exact absurd z9.2.2 (by decide))], rfl, by exact ⟨rfl, rfl, rfl, rfl, rfl, rfl, rfl, rfl, rfl, rfl, rfl, rfl, rfl, rfl, rfl, rfl, rfl⟩⟩) dX1_goStep_96 (by first | exact Nat.le_refl _ | decide) (by first | exact Nat.le_refl _ | decide)
            · refine lv_iconst (v := nI (1)) F.x F.b dX1_goStep_84 (by decide) ?_
              refine lv_goto (tgt := 89) F.x F.b dX1_goStep_85 (by decide) ?_
              refine lv_istore_n (lv' := [(2, .int (nI (1))), (0, .ref (o)), (1, .int (nI (x)))]) F.x F.b dX1_goStep_89 rfl hl (by decide) rfl (fun ls hl => ?_)
              refine lv_aload_n F.x F.b dX1_goStep_90 rfl (lv_at hl 1 rfl) ?_
              refine lv_iconst (v := nI (1)) F.x F.b dX1_goStep_91 (by decide) ?_
              refine m_put F I 24 (by decide) q1179 dX1_goStep_92 (fun H locs (I : Iw G A s (mW G o q (va_up S.1 24 (1), S.2)) H locs) => ?_)
              refine lv_iload_n F.x F.b dX1_goStep_95 rfl (lv_at hl 0 rfl) ?_
              exact g_zret (u := (va_up S.1 24 (1), S.2)) F I (by first | exact bI_01 _ | exact Or.inl rfl | exact Or.inr rfl) (by exact Or.inl ⟨d, v, 1, h, by unfold pStep; rw [if_neg c_5, if_neg (show ¬ x = 6 from c_13), if_pos c_54, if_pos ⟨c_62, c_69, c_81⟩], rfl, ⟨hw.1, hw.2.1, rfl, hw.2.2.2⟩, by exact ⟨rfl, rfl, rfl, rfl, rfl, rfl, rfl, rfl, rfl, rfl, rfl, rfl, rfl, rfl, rfl, rfl, rfl⟩⟩) dX1_goStep_96 (by first | exact Nat.le_refl _ | decide) (by first | exact Nat.le_refl _ | decide)
    · refine lv_aload_n F.x F.b dX1_goStep_16 rfl (lv_at hl 0 rfl) ?_
      refine lv_dup F.x F.b dX1_goStep_17 rfl ?_
      refine m_get (v := (S.1 22)) F I 22 (by decide) rfl q1177 dX1_goStep_18 ?_
      refine W.val (y := nI (d)) (by exact hw.1) ?_
      refine lv_iconst (v := nI (1)) F.x F.b dX1_goStep_21 (by decide) ?_
      refine n_iadd F dX1_goStep_22 ?_
      refine W.val (y := nI (d + 1)) (by rfl) ?_
      refine m_put F I 22 (by decide) q1177 dX1_goStep_23 (fun H locs (I : Iw G A s (mW G o q (va_up S.1 22 ((nI (d + 1))), S.2)) H locs) => ?_)
      refine lv_aload_n F.x F.b dX1_goStep_26 rfl (lv_at hl 0 rfl) ?_
      refine lv_dup F.x F.b dX1_goStep_27 rfl ?_
      refine m_get (v := (S.1 25)) F I 25 (by decide) rfl q1180 dX1_goStep_28 ?_
      refine W.val (y := nI (h)) (by exact hw.2.2.2) ?_
      refine lv_iconst (v := nI (1)) F.x F.b dX1_goStep_31 (by decide) ?_
      refine n_iadd F dX1_goStep_32 ?_
      refine m_put F I 25 (by decide) q1180 dX1_goStep_33 (fun H locs (I : Iw G A s (mW G o q (va_up (va_up S.1 22 ((nI (d + 1)))) 25 ((nI ((h + 1)))), S.2)) H locs) => ?_)
      refine lv_aload_n F.x F.b dX1_goStep_36 rfl (lv_at hl 0 rfl) ?_
      refine m_get (v := (nI (d + 1))) F I 22 (by decide) rfl q1177 dX1_goStep_37 ?_
      refine W.val (y := nI (d + 1)) (by rfl) ?_
      refine lv_bipush (v := nI (8)) F.x F.b dX1_goStep_40 (by decide) ?_
      refine n_icmp_ge (tgt := 49) F (by omega) (by omega) dX1_goStep_42 (by decide) (fun c_42 => ?_) (fun c_42 => ?_)
      · refine lv_iconst (v := nI (0)) F.x F.b dX1_goStep_49 (by decide) ?_
        exact g_zret (u := (va_up (va_up S.1 22 ((nI (d + 1)))) 25 ((nI ((h + 1)))), S.2)) F I (by first | exact bI_01 _ | exact Or.inl rfl | exact Or.inr rfl) (by exact Or.inr ⟨by unfold pStep; rw [if_neg c_5, if_pos c_13, if_neg (show ¬ d + 1 < 8 by omega)], rfl, by exact ⟨rfl, rfl, rfl, rfl, rfl, rfl, rfl, rfl, rfl, rfl, rfl, rfl, rfl, rfl, rfl, rfl, rfl⟩⟩) dX1_goStep_50 (by first | exact Nat.le_refl _ | decide) (by first | exact Nat.le_refl _ | decide)
      · refine lv_iconst (v := nI (1)) F.x F.b dX1_goStep_45 (by decide) ?_
        refine lv_goto (tgt := 50) F.x F.b dX1_goStep_46 (by decide) ?_
        exact g_zret (u := (va_up (va_up S.1 22 ((nI (d + 1)))) 25 ((nI ((h + 1)))), S.2)) F I (by first | exact bI_01 _ | exact Or.inl rfl | exact Or.inr rfl) (by exact Or.inl ⟨d + 1, v, g, h + 1, by unfold pStep; rw [if_neg c_5, if_pos c_13, if_pos (show d + 1 < 8 by omega)], rfl, ⟨rfl, hw.2.1, hw.2.2.1, rfl⟩, by exact ⟨rfl, rfl, rfl, rfl, rfl, rfl, rfl, rfl, rfl, rfl, rfl, rfl, rfl, rfl, rfl, rfl, rfl⟩⟩) dX1_goStep_50 (by first | exact Nat.le_refl _ | decide) (by first | exact Nat.le_refl _ | decide)
  · refine lv_iconst (v := nI (0)) F.x F.b dX1_goStep_8 (by decide) ?_
    exact g_zret (u := S) F I (by first | exact bI_01 _ | exact Or.inl rfl | exact Or.inr rfl) (by exact Or.inr ⟨by unfold pStep; rw [if_pos c_5], rfl, by exact ⟨rfl, rfl, rfl, rfl, rfl, rfl, rfl, rfl, rfl, rfl, rfl, rfl, rfl, rfl, rfl, rfl, rfl⟩⟩) dX1_goStep_9 (by first | exact Nat.le_refl _ | decide) (by first | exact Nat.le_refl _ | decide)

theorem wr_s {L : LD} {g : Bool} {f : Nat → Nat} {t u t' : WS} {k : Nat} (h : pWr L g f t k = 99) (hg : g = true) (hr : pRun L f t k = some u) (hp : pStep L (f k) u = some t') : pWr L g f t (k + 1) = 99 ∧ pRun L f t (k + 1) = some t' := by
  have e : pRun L f t (k + 1) = some t' := by rw [pRun, hr]; exact hp
  exact ⟨by rw [pWr, if_pos h, if_pos ⟨hg, by rw [e]; rfl⟩], e⟩
theorem wr_n {L : LD} {g : Bool} {f : Nat → Nat} {t u : WS} {k : Nat} (h : pWr L g f t k = 99) (hr : pRun L f t k = some u) (hp : pStep L (f k) u = none) : pWr L g f t (k + 1) = k := by
  have e : pRun L f t (k + 1) = none := by rw [pRun, hr]; exact hp
  rw [pWr, if_pos h, if_neg (by rw [e]; simp)]
theorem wr_g {L : LD} {g : Bool} {f : Nat → Nat} {t : WS} {k : Nat} (h : pWr L g f t k = 99) (hg : g = false) : pWr L g f t (k + 1) = k := by rw [pWr, if_pos h, if_neg (by rw [hg]; simp)]
theorem wr_stop {L : LD} {g : Bool} {f : Nat → Nat} {t : WS} {k : Nat} (h : pWr L g f t k ≠ 99) : ∀ n, k ≤ n → pWr L g f t k = pWr L g f t n
  | 0, hk => by rw [show k = 0 by omega]
  | n + 1, hk => by
    rcases Nat.lt_or_ge k (n + 1) with h1 | h1
    · have e := wr_stop h n (by omega)
      rw [pWr, if_neg (by rw [← e]; exact h)]; exact e
    · rw [show n + 1 = k by omega]
theorem hd_mt_wayOf : yX1_wayOf.cls = RX1 ∧ yX1_wayOf.cls ≠ "java/lang/invoke/MethodHandle" ∧ yX1_wayOf.cls ≠ "java/lang/invoke/VarHandle" ∧ (parseMethodDescriptor yX1_wayOf.desc).map (fun d => d.parameters.length) = some 4 := by decide +kernel
set_option maxHeartbeats 4000000 in
theorem mt_wayOf (l : Launch) (G : gG) (o : Nat) (q : Nat → Nat) (S : MS) (dd : Nat) (b : Nat) (n : Nat) (w : Int32) (L : LD) (f : Nat → Nat) (hL : LOk L) (hS : mLd S L 99) (hd : dd < 8) (hn : n ≤ 20) (hbn : b + n ≤ 240) (hf : ∀ u, u < n → S.2 4 (b + u) = nI (f u) ∧ f u ≤ 8 ∧ (f u < 6 → f u < L 5 0)) : gMi l yX1_wayOf cX1_wayOf 8 (some .int) ({ frames := 2, cells := 0, slots := 0, locals := 44 } : Room) G [.ref o, .int (nI (dd)), .int (nI (b)), .int (nI (n)), .int (w)] (mW G o q S) (fun S' => mW G o q S') (fun ρ S' => aWay1 L dd f n w = ρ ∧ mKeep S S') := by
  refine gMi_of (by decide) (Nat.le_of_ble_eq_true rfl) ?_
  intro p e s m below meth c ls A F I hl
  have hl : lv_has ls 8 [(0, .ref (o)), (1, .int (nI (dd))), (2, .int (nI (b))), (3, .int (nI (n))), (4, .int (w))] := hl
  have hS0 := hS
  have hms : 99 < 100 := by decide
  refine lv_aload_n F.x F.b dX1_wayOf_0 rfl (lv_at hl 0 rfl) ?_
  refine lv_iload_n F.x F.b dX1_wayOf_1 rfl (lv_at hl 1 rfl) ?_
  refine m_put F I 22 (by decide) q1177 dX1_wayOf_2 (fun H locs (I : Iw G A s (mW G o q (va_up S.1 22 ((nI (dd))), S.2)) H locs) => ?_)
  refine lv_aload_n F.x F.b dX1_wayOf_5 rfl (lv_at hl 0 rfl) ?_
  refine lv_iconst (v := nI (0)) F.x F.b dX1_wayOf_6 (by decide) ?_
  refine m_put F I 23 (by decide) q1178 dX1_wayOf_7 (fun H locs (I : Iw G A s (mW G o q (va_up (va_up S.1 22 ((nI (dd)))) 23 (0), S.2)) H locs) => ?_)
  refine lv_aload_n F.x F.b dX1_wayOf_10 rfl (lv_at hl 0 rfl) ?_
  refine lv_iconst (v := nI (0)) F.x F.b dX1_wayOf_11 (by decide) ?_
  refine m_put F I 24 (by decide) q1179 dX1_wayOf_12 (fun H locs (I : Iw G A s (mW G o q (va_up (va_up (va_up S.1 22 ((nI (dd)))) 23 (0)) 24 (0), S.2)) H locs) => ?_)
  refine lv_aload_n F.x F.b dX1_wayOf_15 rfl (lv_at hl 0 rfl) ?_
  refine lv_iconst (v := nI (0)) F.x F.b dX1_wayOf_16 (by decide) ?_
  refine m_put F I 25 (by decide) q1180 dX1_wayOf_17 (fun H locs (I : Iw G A s (mW G o q (va_up (va_up (va_up (va_up S.1 22 ((nI (dd)))) 23 (0)) 24 (0)) 25 (0), S.2)) H locs) => ?_)
  refine lv_bipush (v := (-9)) F.x F.b dX1_wayOf_20 (by decide) ?_
  refine lv_istore (lv' := [(5, .int ((-9))), (0, .ref (o)), (1, .int (nI (dd))), (2, .int (nI (b))), (3, .int (nI (n))), (4, .int (w))]) F.x F.b dX1_wayOf_22 hl (by decide) rfl (fun ls hl => ?_)
  refine lv_iconst (v := nI (0)) F.x F.b dX1_wayOf_24 (by decide) ?_
  refine lv_istore (lv' := [(6, .int (nI (0))), (5, .int ((-9))), (0, .ref (o)), (1, .int (nI (dd))), (2, .int (nI (b))), (3, .int (nI (n))), (4, .int (w))]) F.x F.b dX1_wayOf_25 hl (by decide) rfl (fun ls hl => ?_)
  refine W_ind 27 (fun _ => []) (fun n_J => n_J) (fun n_J H locs ls => ∃ (k : Nat) (S1 : MS), n_J = n - k ∧ (k ≤ n) ∧ (mKeep S S1) ∧ (pWr L (pGv L 0 dd) f (dd, 0, 0, 0) k = 99 → ∃ d v g h, pRun L f (dd, 0, 0, 0) k = some (d, v, g, h) ∧ mWy S1 (d, v, g, h) ∧ wsOk (d, v, g, h)) ∧  Iw G A s (mW G o q S1) H locs ∧ lv_has ls 8 [(0, .ref (o)), (1, .int (nI (dd))), (2, .int (nI (b))), (3, .int (nI (n))), (4, .int (w)), (5, .int (eN (pWr L (pGv L 0 dd) f (dd, 0, 0, 0) k))), (6, .int (nI (k)))]) ?_ _ ⟨0, (va_up (va_up (va_up (va_up S.1 22 ((nI (dd)))) 23 (0)) 24 (0)) 25 (0), S.2), rfl, by omega, by exact ⟨rfl, rfl, rfl, rfl, rfl, rfl, rfl, rfl, rfl, rfl, rfl, rfl, rfl, rfl, rfl, rfl, rfl⟩, by exact fun _ => ⟨dd, 0, 0, 0, rfl, ⟨rfl, rfl, rfl, rfl⟩, hd, by show 0 < 3; omega, by show 0 ≤ 2; omega⟩, I, lv_sub hl [2, 3, 4, 5, 6, 1, 0] rfl⟩
  intro n27 H locs ls hJ ih27
  obtain ⟨k, S1, hn27, hk, hk1, hst, I, hl⟩ := hJ
  have hS := mLd_keep hS0 hk1
  have hwl := pWr_le (L := L) (g := pGv L 0 dd) (f := f) (t := (dd, 0, 0, 0)) k
  refine lv_iload F.x F.b dX1_wayOf_27 (lv_at hl 6 rfl) ?_
  refine lv_iload_n F.x F.b dX1_wayOf_29 rfl (lv_at hl 3 rfl) ?_
  refine n_icmp_ge (tgt := 97) F (by omega) (by omega) dX1_wayOf_30 (by decide) (fun c_30 => ?_) (fun c_30 => ?_)
  · have hkn : pWr L (pGv L 0 dd) f (dd, 0, 0, 0) k = pWr L (pGv L 0 dd) f (dd, 0, 0, 0) n := by rw [show k = n by omega]
    refine lv_iload F.x F.b dX1_wayOf_97 (lv_at hl 4 rfl) ?_
    refine lv_iconst (v := nI (1)) F.x F.b dX1_wayOf_99 (by decide) ?_
    refine lv_icmp_ne (x := w) (y := 1) (tgt := 106) F.x F.b dX1_wayOf_100 (by decide) (fun c_100 => ?_) (fun c_100 => ?_)
    · refine lv_iload F.x F.b dX1_wayOf_106 (lv_at hl 5 rfl) ?_
      refine lv_bipush (v := (-9)) F.x F.b dX1_wayOf_108 (by decide) ?_
      refine e9_eq (tgt := 119) F (by omega) dX1_wayOf_110 (by decide) (fun c_110 => ?_) (fun c_110 => ?_)
      · have hkn2 : k = n := by omega
        obtain ⟨d, v, g, h, hrun, hw, hok⟩ := hst c_110
        have hrun : (pRun L f (dd, 0, 0, 0) n).getD (0, 0, 0, 0) = (d, v, g, h) := by rw [← hkn2, hrun]; rfl
        refine lv_iload F.x F.b dX1_wayOf_119 (lv_at hl 4 rfl) ?_
        refine lv_if_ne (x := w) (tgt := 131) F.x F.b dX1_wayOf_121 (by decide) (fun c_121 => ?_) (fun c_121 => ?_)
        · refine lv_iload F.x F.b dX1_wayOf_131 (lv_at hl 4 rfl) ?_
          refine lv_iconst (v := nI (2)) F.x F.b dX1_wayOf_133 (by decide) ?_
          refine lv_icmp_ne (x := w) (y := 2) (tgt := 144) F.x F.b dX1_wayOf_134 (by decide) (fun c_134 => ?_) (fun c_134 => ?_)
          · refine lv_iload F.x F.b dX1_wayOf_144 (lv_at hl 4 rfl) ?_
            refine lv_iconst (v := nI (3)) F.x F.b dX1_wayOf_146 (by decide) ?_
            refine lv_icmp_ne (x := w) (y := 3) (tgt := 157) F.x F.b dX1_wayOf_147 (by decide) (fun c_147 => ?_) (fun c_147 => ?_)
            · refine lv_aload_n F.x F.b dX1_wayOf_157 rfl (lv_at hl 0 rfl) ?_
              refine m_get (v := (S1.1 24)) F I 24 (by decide) rfl q1179 dX1_wayOf_158 ?_
              refine W.val (y := nI (g)) (by exact hw.2.2.1) ?_
              exact g_iret (u := S1) F I (by exact ⟨by rw [aWay1, if_neg c_100, ← hkn, if_pos c_110, hrun]; show wAns w (d, v, g, h) = _; unfold wAns; rw [if_neg c_121, if_neg c_134, if_neg c_147], hk1⟩) dX1_wayOf_161 (by first | exact Nat.le_refl _ | decide) (by first | exact Nat.le_refl _ | decide)
            · refine lv_aload_n F.x F.b dX1_wayOf_150 rfl (lv_at hl 0 rfl) ?_
              refine m_get (v := (S1.1 23)) F I 23 (by decide) rfl q1178 dX1_wayOf_151 ?_
              refine W.val (y := nI (v)) (by exact hw.2.1) ?_
              refine lv_goto (tgt := 161) F.x F.b dX1_wayOf_154 (by decide) ?_
              exact g_iret (u := S1) F I (by exact ⟨by rw [aWay1, if_neg c_100, ← hkn, if_pos c_110, hrun]; show wAns w (d, v, g, h) = _; unfold wAns; rw [if_neg c_121, if_neg c_134, if_pos c_147], hk1⟩) dX1_wayOf_161 (by first | exact Nat.le_refl _ | decide) (by first | exact Nat.le_refl _ | decide)
          · refine lv_aload_n F.x F.b dX1_wayOf_137 rfl (lv_at hl 0 rfl) ?_
            refine m_get (v := (S1.1 25)) F I 25 (by decide) rfl q1180 dX1_wayOf_138 ?_
            refine W.val (y := nI (h)) (by exact hw.2.2.2) ?_
            refine lv_goto (tgt := 161) F.x F.b dX1_wayOf_141 (by decide) ?_
            exact g_iret (u := S1) F I (by exact ⟨by rw [aWay1, if_neg c_100, ← hkn, if_pos c_110, hrun]; show wAns w (d, v, g, h) = _; unfold wAns; rw [if_neg c_121, if_pos c_134], hk1⟩) dX1_wayOf_161 (by first | exact Nat.le_refl _ | decide) (by first | exact Nat.le_refl _ | decide)
        · refine lv_aload_n F.x F.b dX1_wayOf_124 rfl (lv_at hl 0 rfl) ?_
          refine m_get (v := (S1.1 22)) F I 22 (by decide) rfl q1177 dX1_wayOf_125 ?_
          refine W.val (y := nI (d)) (by exact hw.1) ?_
          refine lv_goto (tgt := 161) F.x F.b dX1_wayOf_128 (by decide) ?_
          exact g_iret (u := S1) F I (by exact ⟨by rw [aWay1, if_neg c_100, ← hkn, if_pos c_110, hrun]; show wAns w (d, v, g, h) = _; unfold wAns; rw [if_pos c_121], hk1⟩) dX1_wayOf_161 (by first | exact Nat.le_refl _ | decide) (by first | exact Nat.le_refl _ | decide)
      · refine lv_bipush (v := (-100)) F.x F.b dX1_wayOf_113 (by decide) ?_
        refine lv_iload F.x F.b dX1_wayOf_115 (lv_at hl 5 rfl) ?_
        refine W.val (y := nI (pWr L (pGv L 0 dd) f (dd, 0, 0, 0) k)) (by exact eN_i c_110) ?_
        refine lv_isub (x := (-100)) (y := (nI (pWr L (pGv L 0 dd) f (dd, 0, 0, 0) k))) F.x F.b dX1_wayOf_117 ?_
        exact g_iret (u := S1) F I (by exact ⟨by rw [aWay1, if_neg c_100, ← hkn, if_neg c_110], hk1⟩) dX1_wayOf_118 (by first | exact Nat.le_refl _ | decide) (by first | exact Nat.le_refl _ | decide)
    · refine lv_iload F.x F.b dX1_wayOf_103 (lv_at hl 5 rfl) ?_
      exact g_iret (u := S1) F I (by exact ⟨by rw [aWay1, if_pos c_100, hkn], hk1⟩) dX1_wayOf_105 (by first | exact Nat.le_refl _ | decide) (by first | exact Nat.le_refl _ | decide)
  · refine lv_iload F.x F.b dX1_wayOf_33 (lv_at hl 5 rfl) ?_
    refine lv_bipush (v := (-9)) F.x F.b dX1_wayOf_35 (by decide) ?_
    refine e9_ne (tgt := 97) F (by omega) dX1_wayOf_37 (by decide) (fun c_37 => ?_) (fun c_37 => ?_)
    · have hkn : pWr L (pGv L 0 dd) f (dd, 0, 0, 0) k = pWr L (pGv L 0 dd) f (dd, 0, 0, 0) n := wr_stop c_37 n (by omega)
      refine lv_iload F.x F.b dX1_wayOf_97 (lv_at hl 4 rfl) ?_
      refine lv_iconst (v := nI (1)) F.x F.b dX1_wayOf_99 (by decide) ?_
      refine lv_icmp_ne (x := w) (y := 1) (tgt := 106) F.x F.b dX1_wayOf_100 (by decide) (fun c_100 => ?_) (fun c_100 => ?_)
      · refine lv_iload F.x F.b dX1_wayOf_106 (lv_at hl 5 rfl) ?_
        refine lv_bipush (v := (-9)) F.x F.b dX1_wayOf_108 (by decide) ?_
        refine e9_eq (tgt := 119) F (by omega) dX1_wayOf_110 (by decide) (fun c_110 => absurd c_110 (by exact c_37)) (fun c_110 => ?_)
        refine lv_bipush (v := (-100)) F.x F.b dX1_wayOf_113 (by decide) ?_
        refine lv_iload F.x F.b dX1_wayOf_115 (lv_at hl 5 rfl) ?_
        refine W.val (y := nI (pWr L (pGv L 0 dd) f (dd, 0, 0, 0) k)) (by exact eN_i c_110) ?_
        refine lv_isub (x := (-100)) (y := (nI (pWr L (pGv L 0 dd) f (dd, 0, 0, 0) k))) F.x F.b dX1_wayOf_117 ?_
        exact g_iret (u := S1) F I (by exact ⟨by rw [aWay1, if_neg c_100, ← hkn, if_neg c_110], hk1⟩) dX1_wayOf_118 (by first | exact Nat.le_refl _ | decide) (by first | exact Nat.le_refl _ | decide)
      · refine lv_iload F.x F.b dX1_wayOf_103 (lv_at hl 5 rfl) ?_
        exact g_iret (u := S1) F I (by exact ⟨by rw [aWay1, if_pos c_100, hkn], hk1⟩) dX1_wayOf_105 (by first | exact Nat.le_refl _ | decide) (by first | exact Nat.le_refl _ | decide)
    · obtain ⟨d, v, g, h, hrun, hw, hok⟩ := hst c_37
      have hsome := pWr_some k c_37 (by omega)
      refine lv_iload F.x F.b dX1_wayOf_40 (lv_at hl 6 rfl) ?_
      refine n_if_gt (tgt := 54) F (by omega) dX1_wayOf_42 (by decide) (fun c_42 => ?_) (fun c_42 => ?_)
      · refine lv_iconst (v := nI (1)) F.x F.b dX1_wayOf_54 (by decide) ?_
        refine lv_goto (tgt := 59) F.x F.b dX1_wayOf_55 (by decide) ?_
        refine lv_istore (lv' := [(7, .int (nI (1))), (0, .ref (o)), (1, .int (nI (dd))), (2, .int (nI (b))), (3, .int (nI (n))), (4, .int (w)), (5, .int (eN (pWr L (pGv L 0 dd) f (dd, 0, 0, 0) k))), (6, .int (nI (k)))]) F.x F.b dX1_wayOf_59 hl (by decide) rfl (fun ls hl => ?_)
        refine lv_iload F.x F.b dX1_wayOf_61 (lv_at hl 0 rfl) ?_
        refine n_if_eq (tgt := 87) F (by omega) dX1_wayOf_63 (by decide) (fun c_63 => absurd c_63 (by decide)) (fun c_63 => ?_)
        refine lv_aload_n F.x F.b dX1_wayOf_66 rfl (lv_at hl 1 rfl) ?_
        refine lv_aload_n F.x F.b dX1_wayOf_67 rfl (lv_at hl 1 rfl) ?_
        refine m_geta F I 4 (by decide) q1159 dX1_wayOf_68 ?_
        refine lv_iload_n F.x F.b dX1_wayOf_71 rfl (lv_at hl 3 rfl) ?_
        refine lv_iload F.x F.b dX1_wayOf_72 (lv_at hl 7 rfl) ?_
        refine n_iadd F dX1_wayOf_74 ?_
        refine m_ld (v := ((S1.2 4) ((b + k)))) F I 4 (by decide) (show (b + k) < 240 by omega) rfl dX1_wayOf_75 ?_
        refine W.val (y := nI (f k)) (by rw [hk1.2.2.2.2.2.2.2.1]; exact (hf k (by omega)).1) ?_
        refine g_calli I (g_runV (n := 1) (ci := 0) (q0 := 0) (As := [.int (nI (f k))]) (rest := []) F I (mt_goStep l G o q (S1) (f k) L d v g h (by exact hL) (by exact hS) (by exact hw) (by exact hok) (by exact (hf k (by omega)).2.2) (by exact (hf k (by omega)).2.1) _) q1365 q1367 qs44 q56 q1368 hd_mt_goStep ⟨Nat.le_of_ble_eq_true rfl, Nat.le_of_ble_eq_true rfl⟩ rfl rfl rfl rfl hl.1 rfl (lv_room (Nat.le_of_ble_eq_true rfl)) dX1_wayOf_76 ⟨by first | exact Nat.le_refl _ | decide, by first | exact Nat.le_refl _ | decide⟩) (fun r Z76 H locs hp I => ?_)
        rcases hp with ⟨d', v', g', h', hps, rfl, hwy, hkg⟩ | ⟨hps, rfl, hkg⟩
        · skip
          refine z_eq (tgt := 87) F dX1_wayOf_79 (by decide) (fun c_79 => absurd c_79 (by decide)) (fun c_79 => ?_)
          refine lv_bipush (v := (-9)) F.x F.b dX1_wayOf_82 (by decide) ?_
          refine lv_goto (tgt := 89) F.x F.b dX1_wayOf_84 (by decide) ?_
          have hws := wr_s c_37 (hsome.2 c_42) hrun hps
          refine W.val (y := eN (pWr L (pGv L 0 dd) f (dd, 0, 0, 0) (k + 1))) (by rw [hws.1]; rfl) ?_
          refine lv_istore (lv' := [(5, .int (eN (pWr L (pGv L 0 dd) f (dd, 0, 0, 0) (k + 1)))), (7, .int (nI (1))), (0, .ref (o)), (1, .int (nI (dd))), (2, .int (nI (b))), (3, .int (nI (n))), (4, .int (w)), (6, .int (nI (k)))]) F.x F.b dX1_wayOf_89 hl (by decide) rfl (fun ls hl => ?_)
          refine lv_iinc (v := nI ((k + 1))) (lv' := [(6, .int (nI ((k + 1)))), (5, .int (eN (pWr L (pGv L 0 dd) f (dd, 0, 0, 0) (k + 1)))), (7, .int (nI (1))), (0, .ref (o)), (1, .int (nI (dd))), (2, .int (nI (b))), (3, .int (nI (n))), (4, .int (w))]) F.x F.b dX1_wayOf_91 hl (k := 7) rfl (nI_1 (k)) (by decide) rfl (fun ls hl => ?_)
          refine lv_goto (tgt := 27) F.x F.b dX1_wayOf_94 (by decide) ?_
          exact ih27 _ _ _ _ (by omega) ⟨k + 1, Z76, rfl, by omega, by first | exact hk1.tr hkg | exact hk1, by first | exact fun _ => ⟨_, _, _, _, hws.2, hwy, pStep_ok hL (hf k (by omega)).2.2 (hf k (by omega)).2.1 hok hps⟩ | exact fun z9 => absurd z9 (by rw [hwn]; omega), I, lv_sub hl [3, 4, 5, 6, 7, 1, 0] rfl⟩
        · skip
          refine z_eq (tgt := 87) F dX1_wayOf_79 (by decide) (fun c_79 => ?_) (fun c_79 => absurd c_79 (by decide))
          refine lv_iload F.x F.b dX1_wayOf_87 (lv_at hl 7 rfl) ?_
          have hwn := wr_n (g := pGv L 0 dd) c_37 hrun hps
          refine W.val (y := eN (pWr L (pGv L 0 dd) f (dd, 0, 0, 0) (k + 1))) (by rw [hwn, eN_i (by omega)]) ?_
          refine lv_istore (lv' := [(5, .int (eN (pWr L (pGv L 0 dd) f (dd, 0, 0, 0) (k + 1)))), (7, .int (nI (1))), (0, .ref (o)), (1, .int (nI (dd))), (2, .int (nI (b))), (3, .int (nI (n))), (4, .int (w)), (6, .int (nI (k)))]) F.x F.b dX1_wayOf_89 hl (by decide) rfl (fun ls hl => ?_)
          refine lv_iinc (v := nI ((k + 1))) (lv' := [(6, .int (nI ((k + 1)))), (5, .int (eN (pWr L (pGv L 0 dd) f (dd, 0, 0, 0) (k + 1)))), (7, .int (nI (1))), (0, .ref (o)), (1, .int (nI (dd))), (2, .int (nI (b))), (3, .int (nI (n))), (4, .int (w))]) F.x F.b dX1_wayOf_91 hl (k := 7) rfl (nI_1 (k)) (by decide) rfl (fun ls hl => ?_)
          refine lv_goto (tgt := 27) F.x F.b dX1_wayOf_94 (by decide) ?_
          exact ih27 _ _ _ _ (by omega) ⟨k + 1, Z76, rfl, by omega, by first | exact hk1.tr hkg | exact hk1, by first | exact fun _ => ⟨_, _, _, _, hws.2, hwy, pStep_ok hL (hf k (by omega)).2.2 (hf k (by omega)).2.1 hok hps⟩ | exact fun z9 => absurd z9 (by rw [hwn]; omega), I, lv_sub hl [3, 4, 5, 6, 7, 1, 0] rfl⟩
      · refine lv_aload_n F.x F.b dX1_wayOf_45 rfl (lv_at hl 0 rfl) ?_
        refine lv_iconst (v := nI (0)) F.x F.b dX1_wayOf_46 (by decide) ?_
        refine lv_iload_n F.x F.b dX1_wayOf_47 rfl (lv_at hl 1 rfl) ?_
        refine g_calli I (g_runV (n := 2) (ci := 0) (q0 := 0) (As := [.int (nI (0)), .int (nI (dd))]) (rest := []) F I (mt_doesGiveA l G o q (S1) (0) (dd) L 99 (by exact hL) (by exact hS) (by omega) (by omega) _) q1334 q1336 qs39 q56 q1337 hd_mt_doesGive ⟨Nat.le_of_ble_eq_true rfl, Nat.le_of_ble_eq_true rfl⟩ rfl rfl rfl rfl hl.1 rfl (lv_room (Nat.le_of_ble_eq_true rfl)) dX1_wayOf_48 ⟨by first | exact Nat.le_refl _ | decide, by first | exact Nat.le_refl _ | decide⟩) (fun r u_ H locs hp I => ?_)
        obtain ⟨rfl, rfl⟩ := hp
        refine z_eq (tgt := 58) F dX1_wayOf_51 (by decide) (fun c_51 => ?_) (fun c_51 => ?_)
        · refine lv_iconst (v := nI (0)) F.x F.b dX1_wayOf_58 (by decide) ?_
          refine lv_istore (lv' := [(7, .int (nI (0))), (0, .ref (o)), (1, .int (nI (dd))), (2, .int (nI (b))), (3, .int (nI (n))), (4, .int (w)), (5, .int (eN (pWr L (pGv L 0 dd) f (dd, 0, 0, 0) k))), (6, .int (nI (k)))]) F.x F.b dX1_wayOf_59 hl (by decide) rfl (fun ls hl => ?_)
          refine lv_iload F.x F.b dX1_wayOf_61 (lv_at hl 0 rfl) ?_
          refine n_if_eq (tgt := 87) F (by omega) dX1_wayOf_63 (by decide) (fun c_63 => ?_) (fun c_63 => absurd c_63 (by decide))
          refine lv_iload F.x F.b dX1_wayOf_87 (lv_at hl 7 rfl) ?_
          have hwn := wr_g (L := L) (f := f) c_37 c_51
          refine W.val (y := eN (pWr L (pGv L 0 dd) f (dd, 0, 0, 0) (k + 1))) (by rw [hwn, eN_i (by omega)]) ?_
          refine lv_istore (lv' := [(5, .int (eN (pWr L (pGv L 0 dd) f (dd, 0, 0, 0) (k + 1)))), (7, .int (nI (0))), (0, .ref (o)), (1, .int (nI (dd))), (2, .int (nI (b))), (3, .int (nI (n))), (4, .int (w)), (6, .int (nI (k)))]) F.x F.b dX1_wayOf_89 hl (by decide) rfl (fun ls hl => ?_)
          refine lv_iinc (v := nI ((k + 1))) (lv' := [(6, .int (nI ((k + 1)))), (5, .int (eN (pWr L (pGv L 0 dd) f (dd, 0, 0, 0) (k + 1)))), (7, .int (nI (0))), (0, .ref (o)), (1, .int (nI (dd))), (2, .int (nI (b))), (3, .int (nI (n))), (4, .int (w))]) F.x F.b dX1_wayOf_91 hl (k := 7) rfl (nI_1 (k)) (by decide) rfl (fun ls hl => ?_)
          refine lv_goto (tgt := 27) F.x F.b dX1_wayOf_94 (by decide) ?_
          exact ih27 _ _ _ _ (by omega) ⟨k + 1, S1, rfl, by omega, by first | exact hk1.tr hkg | exact hk1, by first | exact fun _ => ⟨_, _, _, _, hws.2, hwy, pStep_ok hL (hf k (by omega)).2.2 (hf k (by omega)).2.1 hok hps⟩ | exact fun z9 => absurd z9 (by rw [hwn]; omega), I, lv_sub hl [3, 4, 5, 6, 7, 1, 0] rfl⟩
        · refine lv_iconst (v := nI (1)) F.x F.b dX1_wayOf_54 (by decide) ?_
          refine lv_goto (tgt := 59) F.x F.b dX1_wayOf_55 (by decide) ?_
          refine lv_istore (lv' := [(7, .int (nI (1))), (0, .ref (o)), (1, .int (nI (dd))), (2, .int (nI (b))), (3, .int (nI (n))), (4, .int (w)), (5, .int (eN (pWr L (pGv L 0 dd) f (dd, 0, 0, 0) k))), (6, .int (nI (k)))]) F.x F.b dX1_wayOf_59 hl (by decide) rfl (fun ls hl => ?_)
          refine lv_iload F.x F.b dX1_wayOf_61 (lv_at hl 0 rfl) ?_
          refine n_if_eq (tgt := 87) F (by omega) dX1_wayOf_63 (by decide) (fun c_63 => absurd c_63 (by decide)) (fun c_63 => ?_)
          refine lv_aload_n F.x F.b dX1_wayOf_66 rfl (lv_at hl 1 rfl) ?_
          refine lv_aload_n F.x F.b dX1_wayOf_67 rfl (lv_at hl 1 rfl) ?_
          refine m_geta F I 4 (by decide) q1159 dX1_wayOf_68 ?_
          refine lv_iload_n F.x F.b dX1_wayOf_71 rfl (lv_at hl 3 rfl) ?_
          refine lv_iload F.x F.b dX1_wayOf_72 (lv_at hl 7 rfl) ?_
          refine n_iadd F dX1_wayOf_74 ?_
          refine m_ld (v := ((S1.2 4) ((b + k)))) F I 4 (by decide) (show (b + k) < 240 by omega) rfl dX1_wayOf_75 ?_
          refine W.val (y := nI (f k)) (by rw [hk1.2.2.2.2.2.2.2.1]; exact (hf k (by omega)).1) ?_
          refine g_calli I (g_runV (n := 1) (ci := 0) (q0 := 0) (As := [.int (nI (f k))]) (rest := []) F I (mt_goStep l G o q (S1) (f k) L d v g h (by exact hL) (by exact hS) (by exact hw) (by exact hok) (by exact (hf k (by omega)).2.2) (by exact (hf k (by omega)).2.1) _) q1365 q1367 qs44 q56 q1368 hd_mt_goStep ⟨Nat.le_of_ble_eq_true rfl, Nat.le_of_ble_eq_true rfl⟩ rfl rfl rfl rfl hl.1 rfl (lv_room (Nat.le_of_ble_eq_true rfl)) dX1_wayOf_76 ⟨by first | exact Nat.le_refl _ | decide, by first | exact Nat.le_refl _ | decide⟩) (fun r Z76 H locs hp I => ?_)
          rcases hp with ⟨d', v', g', h', hps, rfl, hwy, hkg⟩ | ⟨hps, rfl, hkg⟩
          · skip
            refine z_eq (tgt := 87) F dX1_wayOf_79 (by decide) (fun c_79 => absurd c_79 (by decide)) (fun c_79 => ?_)
            refine lv_bipush (v := (-9)) F.x F.b dX1_wayOf_82 (by decide) ?_
            refine lv_goto (tgt := 89) F.x F.b dX1_wayOf_84 (by decide) ?_
            have hws := wr_s c_37 c_51 hrun hps
            refine W.val (y := eN (pWr L (pGv L 0 dd) f (dd, 0, 0, 0) (k + 1))) (by rw [hws.1]; rfl) ?_
            refine lv_istore (lv' := [(5, .int (eN (pWr L (pGv L 0 dd) f (dd, 0, 0, 0) (k + 1)))), (7, .int (nI (1))), (0, .ref (o)), (1, .int (nI (dd))), (2, .int (nI (b))), (3, .int (nI (n))), (4, .int (w)), (6, .int (nI (k)))]) F.x F.b dX1_wayOf_89 hl (by decide) rfl (fun ls hl => ?_)
            refine lv_iinc (v := nI ((k + 1))) (lv' := [(6, .int (nI ((k + 1)))), (5, .int (eN (pWr L (pGv L 0 dd) f (dd, 0, 0, 0) (k + 1)))), (7, .int (nI (1))), (0, .ref (o)), (1, .int (nI (dd))), (2, .int (nI (b))), (3, .int (nI (n))), (4, .int (w))]) F.x F.b dX1_wayOf_91 hl (k := 7) rfl (nI_1 (k)) (by decide) rfl (fun ls hl => ?_)
            refine lv_goto (tgt := 27) F.x F.b dX1_wayOf_94 (by decide) ?_
            exact ih27 _ _ _ _ (by omega) ⟨k + 1, Z76, rfl, by omega, by first | exact hk1.tr hkg | exact hk1, by first | exact fun _ => ⟨_, _, _, _, hws.2, hwy, pStep_ok hL (hf k (by omega)).2.2 (hf k (by omega)).2.1 hok hps⟩ | exact fun z9 => absurd z9 (by rw [hwn]; omega), I, lv_sub hl [3, 4, 5, 6, 7, 1, 0] rfl⟩
          · skip
            refine z_eq (tgt := 87) F dX1_wayOf_79 (by decide) (fun c_79 => ?_) (fun c_79 => absurd c_79 (by decide))
            refine lv_iload F.x F.b dX1_wayOf_87 (lv_at hl 7 rfl) ?_
            have hwn := wr_n (g := pGv L 0 dd) c_37 hrun hps
            refine W.val (y := eN (pWr L (pGv L 0 dd) f (dd, 0, 0, 0) (k + 1))) (by rw [hwn, eN_i (by omega)]) ?_
            refine lv_istore (lv' := [(5, .int (eN (pWr L (pGv L 0 dd) f (dd, 0, 0, 0) (k + 1)))), (7, .int (nI (1))), (0, .ref (o)), (1, .int (nI (dd))), (2, .int (nI (b))), (3, .int (nI (n))), (4, .int (w)), (6, .int (nI (k)))]) F.x F.b dX1_wayOf_89 hl (by decide) rfl (fun ls hl => ?_)
            refine lv_iinc (v := nI ((k + 1))) (lv' := [(6, .int (nI ((k + 1)))), (5, .int (eN (pWr L (pGv L 0 dd) f (dd, 0, 0, 0) (k + 1)))), (7, .int (nI (1))), (0, .ref (o)), (1, .int (nI (dd))), (2, .int (nI (b))), (3, .int (nI (n))), (4, .int (w))]) F.x F.b dX1_wayOf_91 hl (k := 7) rfl (nI_1 (k)) (by decide) rfl (fun ls hl => ?_)
            refine lv_goto (tgt := 27) F.x F.b dX1_wayOf_94 (by decide) ?_
            exact ih27 _ _ _ _ (by omega) ⟨k + 1, Z76, rfl, by omega, by first | exact hk1.tr hkg | exact hk1, by first | exact fun _ => ⟨_, _, _, _, hws.2, hwy, pStep_ok hL (hf k (by omega)).2.2 (hf k (by omega)).2.1 hok hps⟩ | exact fun z9 => absurd z9 (by rw [hwn]; omega), I, lv_sub hl [3, 4, 5, 6, 7, 1, 0] rfl⟩

theorem way_f {L : LD} {x : Int32} (hL5 : L 5 0 ≤ 6) (h : mWi x 0 8 = true) (h2 : 6 ≤ x ∨ pvP L x = true) : x = nI x.toNatClampNeg ∧ x.toNatClampNeg ≤ 8 ∧ (x.toNatClampNeg < 6 → x.toNatClampNeg < L 5 0) := by
  obtain ⟨j, hj, rfl⟩ := wi_n (m := 8) (by decide) h
  rw [nI_clamp (by omega)]
  refine ⟨rfl, hj, fun h6 => ?_⟩
  rcases h2 with h2 | h2
  · have := (nI_leI (a := 6) (b := j) (by decide) (by omega)).mp h2; omega
  · obtain ⟨i, hi, e⟩ := pv_n hL5 h2
    rw [(nI_eq (by omega) (by omega)).mp e]; exact hi
theorem hk0 {S Z : MS} {a : Int32} (h : mKeep (va_up S.1 0 a, S.2) Z) : mKeep (va_up Z.1 0 (S.1 0), Z.2) S := by
  obtain ⟨b1, b2, b3, b4, b5, b6, b7, b8, b9, b10, b11, b12, b13, b14, b15, b16, b17⟩ := h
  exact ⟨rfl, b2.symm, b3.symm, b4.symm, b5.symm, b6.symm, b7.symm, b8.symm, b9.symm, b10.symm, b11.symm, b12.symm, b13.symm, b14.symm, b15.symm, b16.symm, b17.symm⟩
theorem hd_mt_way : yX1_way.cls = RX1 ∧ yX1_way.cls ≠ "java/lang/invoke/MethodHandle" ∧ yX1_way.cls ≠ "java/lang/invoke/VarHandle" ∧ (parseMethodDescriptor yX1_way.desc).map (fun d => d.parameters.length) = some 6 := by decide +kernel
set_option maxHeartbeats 4000000 in
theorem mt_way (l : Launch) (G : gG) (o : Nat) (q : Nat → Nat) (S : MS) (x : Int32) (v : Int32) (y : Int32) (z : Int32) (u : Int32) (w : Int32) (L : LD) (C : Nat → Nat → Int32) (hL : LOk L) (hS : mLd S L 99) (hO : SOk L) (hC : mSh S L C) : gMi l yX1_way cX1_way 10 (some .int) ({ frames := 3, cells := 0, slots := 0, locals := 71 } : Room) G [.ref o, .int (x), .int (v), .int (y), .int (z), .int (u), .int (w)] (mW G o q S) (fun S' => mW G o q S') (fun ρ S' => aWay L C x v y z u w = ρ ∧ S'.1 0 = fWay L x v y z u w ∧ mKeep (va_up S'.1 0 (S.1 0), S'.2) S) := by
  refine gMi_of (by decide) (Nat.le_of_ble_eq_true rfl) ?_
  intro p e s m below meth c ls A F I hl
  have hl : lv_has ls 10 [(0, .ref (o)), (1, .int (x)), (2, .int (v)), (3, .int (y)), (4, .int (z)), (5, .int (u)), (6, .int (w))] := hl
  have hL5 := hL.1
  have hS0 := hS
  refine lv_aload_n F.x F.b dX1_way_0 rfl (lv_at hl 0 rfl) ?_
  refine lv_iconst (v := nI (0)) F.x F.b dX1_way_1 (by decide) ?_
  refine m_put F I 0 (by decide) q1155 dX1_way_2 (fun H locs (I : Iw G A s (mW G o q (va_up S.1 0 (0), S.2)) H locs) => ?_)
  refine lv_iload_n F.x F.b dX1_way_5 rfl (lv_at hl 1 rfl) ?_
  refine g_calli I (g_runS (n := 1) (As := [.int (x)]) (rest := []) F I (mt_isDay l G _ (x)   _) q1304 q1305 q56 q1306 hd_mt_isDay.2 ⟨Nat.le_of_ble_eq_true rfl, Nat.le_of_ble_eq_true rfl⟩ rfl rfl hl.1 rfl (lv_room (Nat.le_of_ble_eq_true rfl)) dX1_way_6 ⟨by first | exact Nat.le_refl _ | decide, by first | exact Nat.le_refl _ | decide⟩) (fun r u_ H locs hp I => ?_)
  obtain rfl := hp
  refine z_ne (tgt := 15) F dX1_way_9 (by decide) (fun c_9 => ?_) (fun c_9 => ?_)
  · obtain ⟨j, hj, rfl⟩ := wi_n (m := 7) (by decide) c_9
    have tj : (nI j).toNatClampNeg = j := nI_clamp (by omega)
    refine lv_iload_n F.x F.b dX1_way_15 rfl (lv_at hl 2 rfl) ?_
    refine g_calli I (g_runS (n := 1) (As := [.int (v)]) (rest := []) F I (mt_isSheet l G _ (v)   _) q1247 q1248 q56 q1249 hd_mt_isSheet.2 ⟨Nat.le_of_ble_eq_true rfl, Nat.le_of_ble_eq_true rfl⟩ rfl rfl hl.1 rfl (lv_room (Nat.le_of_ble_eq_true rfl)) dX1_way_16 ⟨by first | exact Nat.le_refl _ | decide, by first | exact Nat.le_refl _ | decide⟩) (fun r u_ H locs hp I => ?_)
    obtain rfl := hp
    refine z_ne (tgt := 24) F dX1_way_19 (by decide) (fun c_19 => ?_) (fun c_19 => ?_)
    · obtain ⟨k, hk, rfl⟩ := wi_n (m := 3) (by decide) c_19
      have tk : (nI k).toNatClampNeg = k := nI_clamp (by omega)
      refine lv_iload_n F.x F.b dX1_way_24 rfl (lv_at hl 3 rfl) ?_
      refine g_calli I (g_runS (n := 1) (As := [.int (y)]) (rest := []) F I (mt_isSort l G _ (y)   _) q1253 q1254 q56 q1255 hd_mt_isSort.2 ⟨Nat.le_of_ble_eq_true rfl, Nat.le_of_ble_eq_true rfl⟩ rfl rfl hl.1 rfl (lv_room (Nat.le_of_ble_eq_true rfl)) dX1_way_25 ⟨by first | exact Nat.le_refl _ | decide, by first | exact Nat.le_refl _ | decide⟩) (fun r u_ H locs hp I => ?_)
      obtain rfl := hp
      refine z_eq (tgt := 52) F dX1_way_28 (by decide) (fun c_28 => ?_) (fun c_28 => ?_)
      · refine lv_bipush (v := (-2)) F.x F.b dX1_way_52 (by decide) ?_
        exact g_iret (u := (va_up S.1 0 (0), S.2)) F I (by exact ⟨by simp [aWay, *], by simp [fWay, *, va_up], by exact ⟨rfl, rfl, rfl, rfl, rfl, rfl, rfl, rfl, rfl, rfl, rfl, rfl, rfl, rfl, rfl, rfl, rfl⟩⟩) dX1_way_54 (by first | exact Nat.le_refl _ | decide) (by first | exact Nat.le_refl _ | decide)
      · obtain ⟨sr, hsr, rfl⟩ := wi_n (m := 2) (by decide) c_28
        have tsr : (nI sr).toNatClampNeg = sr := nI_clamp (by omega)
        refine lv_iload F.x F.b dX1_way_31 (lv_at hl 5 rfl) ?_
        refine lv_iconst (v := nI (0)) F.x F.b dX1_way_33 (by decide) ?_
        refine lv_bipush (v := nI (20)) F.x F.b dX1_way_34 (by decide) ?_
        refine g_calli I (g_runS (n := 3) (As := [.int (u), .int (nI (0)), .int (nI (20))]) (rest := []) F I (mt_within l G _ (u) (0) (20)   _) q1250 q1251 q56 q1252 hd_mt_within.2 ⟨Nat.le_of_ble_eq_true rfl, Nat.le_of_ble_eq_true rfl⟩ rfl rfl hl.1 rfl (lv_room (Nat.le_of_ble_eq_true rfl)) dX1_way_36 ⟨by first | exact Nat.le_refl _ | decide, by first | exact Nat.le_refl _ | decide⟩) (fun r u_ H locs hp I => ?_)
        obtain rfl := hp
        refine z_eq (tgt := 52) F dX1_way_39 (by decide) (fun c_39 => ?_) (fun c_39 => ?_)
        · refine lv_bipush (v := (-2)) F.x F.b dX1_way_52 (by decide) ?_
          exact g_iret (u := (va_up S.1 0 (0), S.2)) F I (by exact ⟨by simp [aWay, *], by simp [fWay, *, va_up], by exact ⟨rfl, rfl, rfl, rfl, rfl, rfl, rfl, rfl, rfl, rfl, rfl, rfl, rfl, rfl, rfl, rfl, rfl⟩⟩) dX1_way_54 (by first | exact Nat.le_refl _ | decide) (by first | exact Nat.le_refl _ | decide)
        · obtain ⟨n, hn, rfl⟩ := wi_n (m := 20) (by decide) c_39
          have tn : (nI n).toNatClampNeg = n := nI_clamp (by omega)
          refine lv_iload F.x F.b dX1_way_42 (lv_at hl 6 rfl) ?_
          refine lv_iconst (v := nI (0)) F.x F.b dX1_way_44 (by decide) ?_
          refine lv_iconst (v := nI (4)) F.x F.b dX1_way_45 (by decide) ?_
          refine g_calli I (g_runS (n := 3) (As := [.int (w), .int (nI (0)), .int (nI (4))]) (rest := []) F I (mt_within l G _ (w) (0) (4)   _) q1250 q1251 q56 q1252 hd_mt_within.2 ⟨Nat.le_of_ble_eq_true rfl, Nat.le_of_ble_eq_true rfl⟩ rfl rfl hl.1 rfl (lv_room (Nat.le_of_ble_eq_true rfl)) dX1_way_46 ⟨by first | exact Nat.le_refl _ | decide, by first | exact Nat.le_refl _ | decide⟩) (fun r u_ H locs hp I => ?_)
          obtain rfl := hp
          refine z_ne (tgt := 55) F dX1_way_49 (by decide) (fun c_49 => ?_) (fun c_49 => ?_)
          · refine lv_aload_n F.x F.b dX1_way_55 rfl (lv_at hl 0 rfl) ?_
            refine lv_iload_n F.x F.b dX1_way_56 rfl (lv_at hl 2 rfl) ?_
            refine lv_iload_n F.x F.b dX1_way_57 rfl (lv_at hl 3 rfl) ?_
            refine lv_iload F.x F.b dX1_way_58 (lv_at hl 4 rfl) ?_
            refine lv_iload F.x F.b dX1_way_60 (lv_at hl 5 rfl) ?_
            refine g_calli I (g_runV (n := 4) (ci := 0) (q0 := 0) (As := [.int (nI (k)), .int (nI (sr)), .int (z), .int (nI (n))]) (rest := []) F I (mt_against l G o q ((va_up S.1 0 (0), S.2)) (k) ((nI (sr))) (z) ((nI (n))) L C (by exact hO) (by exact hC) (by omega) _) q1256 q1258 qs26 q56 q1259 hd_mt_against ⟨Nat.le_of_ble_eq_true rfl, Nat.le_of_ble_eq_true rfl⟩ rfl rfl rfl rfl hl.1 rfl (lv_room (Nat.le_of_ble_eq_true rfl)) dX1_way_62 ⟨by first | exact Nat.le_refl _ | decide, by first | exact Nat.le_refl _ | decide⟩) (fun r u_ H locs hp I => ?_)
            obtain ⟨rfl, rfl⟩ := hp
            refine lv_istore (lv' := [(7, .int (agn L k ((nI (sr))) z ((nI (n))))), (0, .ref (o)), (1, .int (nI (j))), (2, .int (nI (k))), (3, .int (nI (sr))), (4, .int (z)), (5, .int (nI (n))), (6, .int (w))]) F.x F.b dX1_way_65 hl (by decide) rfl (fun ls hl => ?_)
            refine lv_iload F.x F.b dX1_way_67 (lv_at hl 0 rfl) ?_
            refine lv_if_eq (x := agn L k ((nI (sr))) z ((nI (n)))) (tgt := 79) F.x F.b dX1_way_69 (by decide) (fun c_69 => ?_) (fun c_69 => ?_)
            · obtain ⟨hs2, hss, i, n2, rfl, e2, hin⟩ := agn_0 c_69 (hO k (by omega)).2
              obtain rfl : n = n2 := (nI_eq (by omega) (by have := (hO k (by omega)).2 hs2; omega)).mp e2
              have hO3 := (hO k (by omega)).2 hs2
              have ti : (nI i).toNatClampNeg = i := nI_clamp (by omega)
              have hcg : ∀ u, u < n → S.2 4 (60 * k + i + u) = tx C k i u := fun u hu => by rw [Nat.add_assoc]; exact (hC.2 k (by omega) hs2).2 (i + u) (by omega)
              refine lv_aload_n F.x F.b dX1_way_79 rfl (lv_at hl 1 rfl) ?_
              refine m_get (v := nI (L 5 0)) F I 5 (by decide) hS.1 q1160 dX1_way_80 ?_
              refine n_if_ne (tgt := 89) F (by omega) dX1_way_83 (by decide) (fun c_83 => ?_) (fun c_83 => ?_)
              · refine lv_bipush (v := nI (60)) F.x F.b dX1_way_89 (by decide) ?_
                refine lv_iload_n F.x F.b dX1_way_91 rfl (lv_at hl 3 rfl) ?_
                refine n_imul F dX1_way_92 ?_
                refine lv_iload F.x F.b dX1_way_93 (lv_at hl 5 rfl) ?_
                refine n_iadd F dX1_way_95 ?_
                refine lv_istore (lv' := [(8, .int (nI (((60 * k) + i)))), (7, .int (agn L k ((nI (sr))) (nI (i)) ((nI (n))))), (0, .ref (o)), (1, .int (nI (j))), (2, .int (nI (k))), (3, .int (nI (sr))), (4, .int (nI (i))), (5, .int (nI (n))), (6, .int (w))]) F.x F.b dX1_way_96 hl (by decide) rfl (fun ls hl => ?_)
                refine lv_iconst (v := nI (0)) F.x F.b dX1_way_98 (by decide) ?_
                refine lv_istore (lv' := [(9, .int (nI (0))), (8, .int (nI (((60 * k) + i)))), (7, .int (agn L k ((nI (sr))) (nI (i)) ((nI (n))))), (0, .ref (o)), (1, .int (nI (j))), (2, .int (nI (k))), (3, .int (nI (sr))), (4, .int (nI (i))), (5, .int (nI (n))), (6, .int (w))]) F.x F.b dX1_way_99 hl (by decide) rfl (fun ls hl => ?_)
                refine W_ind 101 (fun _ => []) (fun n_J => n_J) (fun n_J H locs ls => ∃ (r : Nat), n_J = n - r ∧ (r ≤ n) ∧ (bar L (tx C k i) r = 0) ∧ (∀ u, u < r → tx C k i u = nI (tx C k i u).toNatClampNeg ∧ (tx C k i u).toNatClampNeg ≤ 8 ∧ ((tx C k i u).toNatClampNeg < 6 → (tx C k i u).toNatClampNeg < L 5 0)) ∧  Iw G A s (mW G o q (va_up S.1 0 (0), S.2)) H locs ∧ lv_has ls 10 [(0, .ref (o)), (1, .int (nI (j))), (2, .int (nI (k))), (3, .int (nI (sr))), (4, .int (nI (i))), (5, .int (nI (n))), (6, .int (w)), (8, .int (nI (((60 * k) + i)))), (9, .int (nI (r)))]) ?_ _ ⟨0, rfl, by omega, by rfl, by exact fun u hu => absurd hu (Nat.not_lt_zero _), I, lv_sub hl [3, 4, 5, 6, 7, 8, 9, 1, 0] rfl⟩
                intro n101 H locs ls hJ ih101
                obtain ⟨r, hn101, hr, hbr, hfs, I, hl⟩ := hJ
                refine lv_iload F.x F.b dX1_way_101 (lv_at hl 8 rfl) ?_
                refine lv_iload F.x F.b dX1_way_103 (lv_at hl 5 rfl) ?_
                refine n_icmp_ge (tgt := 170) F (by omega) (by omega) dX1_way_105 (by decide) (fun c_105 => ?_) (fun c_105 => ?_)
                · refine lv_aload_n F.x F.b dX1_way_170 rfl (lv_at hl 0 rfl) ?_
                  refine lv_iload_n F.x F.b dX1_way_171 rfl (lv_at hl 1 rfl) ?_
                  refine lv_iload F.x F.b dX1_way_172 (lv_at hl 7 rfl) ?_
                  refine lv_iload F.x F.b dX1_way_174 (lv_at hl 5 rfl) ?_
                  refine lv_iload F.x F.b dX1_way_176 (lv_at hl 6 rfl) ?_
                  refine g_calli I (g_runV (n := 4) (ci := 0) (q0 := 0) (As := [.int (nI (j)), .int (nI (((60 * k) + i))), .int (nI (n)), .int (w)]) (rest := []) F I (mt_wayOf l G o q ((va_up S.1 0 (0), S.2)) (j) (((60 * k) + i)) (n) (w) L (fun t => (tx C k i t).toNatClampNeg) (by exact hL) (by exact hS) (by omega) (by omega) (by omega) (by exact fun u hu => ⟨(hcg u hu).trans (hfs u (by omega)).1, (hfs u (by omega)).2⟩) _) q1361 q1363 qs43 q56 q1364 hd_mt_wayOf ⟨Nat.le_of_ble_eq_true rfl, Nat.le_of_ble_eq_true rfl⟩ rfl rfl rfl rfl hl.1 rfl (lv_room (Nat.le_of_ble_eq_true rfl)) dX1_way_178 ⟨by first | exact Nat.le_refl _ | decide, by first | exact Nat.le_refl _ | decide⟩) (fun r Z178 H locs hp I => ?_)
                  obtain ⟨rfl, hq178⟩ := hp
                  exact g_iret (u := Z178) F I (by exact ⟨by rw [aWay, if_pos c_9, if_pos c_19, if_pos (by simp [*]), tk, ti, tn, tj, if_pos c_69, if_neg c_83, if_pos (by rw [show n = r by omega]; exact hbr)], by rw [fWay, if_pos (by simp [*]), tk, c_69]; exact hq178.1, hk0 hq178⟩) dX1_way_181 (by first | exact Nat.le_refl _ | decide) (by first | exact Nat.le_refl _ | decide)
                · refine lv_aload_n F.x F.b dX1_way_108 rfl (lv_at hl 0 rfl) ?_
                  refine m_geta F I 4 (by decide) q1159 dX1_way_109 ?_
                  refine lv_iload F.x F.b dX1_way_112 (lv_at hl 7 rfl) ?_
                  refine lv_iload F.x F.b dX1_way_114 (lv_at hl 8 rfl) ?_
                  refine n_iadd F dX1_way_116 ?_
                  refine m_ld (v := ((S.2 4) ((((60 * k) + i) + r)))) F I 4 (by decide) (show (((60 * k) + i) + r) < 240 by omega) rfl dX1_way_117 ?_
                  refine W.val (y := tx C k i r) (by exact hcg r (by omega)) ?_
                  refine lv_iconst (v := nI (0)) F.x F.b dX1_way_118 (by decide) ?_
                  refine lv_bipush (v := nI (8)) F.x F.b dX1_way_119 (by decide) ?_
                  refine g_calli I (g_runS (n := 3) (As := [.int (tx C k i r), .int (nI (0)), .int (nI (8))]) (rest := []) F I (mt_within l G _ (tx C k i r) (0) (8)   _) q1250 q1251 q56 q1252 hd_mt_within.2 ⟨Nat.le_of_ble_eq_true rfl, Nat.le_of_ble_eq_true rfl⟩ rfl rfl hl.1 rfl (lv_room (Nat.le_of_ble_eq_true rfl)) dX1_way_121 ⟨by first | exact Nat.le_refl _ | decide, by first | exact Nat.le_refl _ | decide⟩) (fun r u_ H locs hp I => ?_)
                  obtain rfl := hp
                  refine z_ne (tgt := 130) F dX1_way_124 (by decide) (fun c_124 => ?_) (fun c_124 => ?_)
                  · refine lv_aload_n F.x F.b dX1_way_130 rfl (lv_at hl 0 rfl) ?_
                    refine m_geta F I 4 (by decide) q1159 dX1_way_131 ?_
                    refine lv_iload F.x F.b dX1_way_134 (lv_at hl 7 rfl) ?_
                    refine lv_iload F.x F.b dX1_way_136 (lv_at hl 8 rfl) ?_
                    refine n_iadd F dX1_way_138 ?_
                    refine m_ld (v := ((S.2 4) ((((60 * k) + i) + r)))) F I 4 (by decide) (show (((60 * k) + i) + r) < 240 by omega) rfl dX1_way_139 ?_
                    refine W.val (y := tx C k i r) (by exact hcg r (by omega)) ?_
                    refine lv_bipush (v := nI (6)) F.x F.b dX1_way_140 (by decide) ?_
                    refine lv_icmp_ge (x := tx C k i r) (y := 6) (tgt := 164) F.x F.b dX1_way_142 (by decide) (fun c_142 => ?_) (fun c_142 => ?_)
                    · have hb2 : bar L (tx C k i) (r + 1) = 0 := by rw [bar, if_pos hbr, if_pos c_124, if_neg (by intro z9; exact Int32.not_le.mpr z9.1 c_142)]
                      refine lv_iinc (v := nI ((r + 1))) (lv' := [(9, .int (nI ((r + 1)))), (0, .ref (o)), (1, .int (nI (j))), (2, .int (nI (k))), (3, .int (nI (sr))), (4, .int (nI (i))), (5, .int (nI (n))), (6, .int (w)), (8, .int (nI (((60 * k) + i))))]) F.x F.b dX1_way_164 hl (k := 8) rfl (nI_1 (r)) (by decide) rfl (fun ls hl => ?_)
                      refine lv_goto (tgt := 101) F.x F.b dX1_way_167 (by decide) ?_
                      exact ih101 _ _ _ _ (by omega) ⟨r + 1, rfl, by omega, by exact hb2, by exact fun u hu => by rcases Nat.lt_or_ge u r with a | a <;> first | exact hfs u a | (rw [show u = r by omega]; exact way_f hL5 c_124 (by first | exact Or.inl c_142 | exact Or.inr c_159)), I, lv_sub hl [1, 2, 3, 4, 5, 6, 7, 8, 0] rfl⟩
                    · refine lv_aload_n F.x F.b dX1_way_145 rfl (lv_at hl 0 rfl) ?_
                      refine lv_aload_n F.x F.b dX1_way_146 rfl (lv_at hl 0 rfl) ?_
                      refine m_geta F I 4 (by decide) q1159 dX1_way_147 ?_
                      refine lv_iload F.x F.b dX1_way_150 (lv_at hl 7 rfl) ?_
                      refine lv_iload F.x F.b dX1_way_152 (lv_at hl 8 rfl) ?_
                      refine n_iadd F dX1_way_154 ?_
                      refine m_ld (v := ((S.2 4) ((((60 * k) + i) + r)))) F I 4 (by decide) (show (((60 * k) + i) + r) < 240 by omega) rfl dX1_way_155 ?_
                      refine W.val (y := tx C k i r) (by exact hcg r (by omega)) ?_
                      refine g_calli I (g_runV (n := 1) (ci := 0) (q0 := 0) (As := [.int (tx C k i r)]) (rest := []) F I (mt_isPassA l G o q ((va_up S.1 0 (0), S.2)) (tx C k i r) L 99 (by exact hL) (by exact hS) _) q1292 q1294 qs34 q56 q1295 hd_mt_isPass ⟨Nat.le_of_ble_eq_true rfl, Nat.le_of_ble_eq_true rfl⟩ rfl rfl rfl rfl hl.1 rfl (lv_room (Nat.le_of_ble_eq_true rfl)) dX1_way_156 ⟨by first | exact Nat.le_refl _ | decide, by first | exact Nat.le_refl _ | decide⟩) (fun r u_ H locs hp I => ?_)
                      obtain ⟨rfl, rfl⟩ := hp
                      refine z_ne (tgt := 164) F dX1_way_159 (by decide) (fun c_159 => ?_) (fun c_159 => ?_)
                      · have hb2 : bar L (tx C k i) (r + 1) = 0 := by rw [bar, if_pos hbr, if_pos c_124, if_neg (by intro z9; rw [c_159] at z9; exact absurd z9.2 (by decide))]
                        refine lv_iinc (v := nI ((r + 1))) (lv' := [(9, .int (nI ((r + 1)))), (0, .ref (o)), (1, .int (nI (j))), (2, .int (nI (k))), (3, .int (nI (sr))), (4, .int (nI (i))), (5, .int (nI (n))), (6, .int (w)), (8, .int (nI (((60 * k) + i))))]) F.x F.b dX1_way_164 hl (k := 8) rfl (nI_1 (r)) (by decide) rfl (fun ls hl => ?_)
                        refine lv_goto (tgt := 101) F.x F.b dX1_way_167 (by decide) ?_
                        exact ih101 _ _ _ _ (by omega) ⟨r + 1, rfl, by omega, by exact hb2, by exact fun u hu => by rcases Nat.lt_or_ge u r with a | a <;> first | exact hfs u a | (rw [show u = r by omega]; exact way_f hL5 c_124 (by first | exact Or.inl c_142 | exact Or.inr c_159)), I, lv_sub hl [1, 2, 3, 4, 5, 6, 7, 8, 0] rfl⟩
                      · have hb2 : bar L (tx C k i) (r + 1) = -1 := by rw [bar, if_pos hbr, if_pos c_124, if_pos ⟨Int32.not_le.mp c_142, c_159⟩]
                        refine lv_iconst (v := (-1)) F.x F.b dX1_way_162 (by decide) ?_
                        exact g_iret (u := (va_up S.1 0 (0), S.2)) F I (by exact ⟨by rw [aWay, if_pos c_9, if_pos c_19, if_pos (by simp [*]), tk, ti, tn, tj, if_pos c_69, if_neg c_83, if_neg (by rw [bar_f hb2 (by decide) n (by omega)]; decide), bar_f hb2 (by decide) n (by omega)], by rw [fWay, if_pos (by simp [*]), tk, c_69]; rfl, by exact ⟨rfl, rfl, rfl, rfl, rfl, rfl, rfl, rfl, rfl, rfl, rfl, rfl, rfl, rfl, rfl, rfl, rfl⟩⟩) dX1_way_163 (by first | exact Nat.le_refl _ | decide) (by first | exact Nat.le_refl _ | decide)
                  · have hb2 : bar L (tx C k i) (r + 1) = -2 := by rw [bar, if_pos hbr, if_neg (by simp [c_124])]
                    refine lv_bipush (v := (-2)) F.x F.b dX1_way_127 (by decide) ?_
                    exact g_iret (u := (va_up S.1 0 (0), S.2)) F I (by exact ⟨by rw [aWay, if_pos c_9, if_pos c_19, if_pos (by simp [*]), tk, ti, tn, tj, if_pos c_69, if_neg c_83, if_neg (by rw [bar_f hb2 (by decide) n (by omega)]; decide), bar_f hb2 (by decide) n (by omega)], by rw [fWay, if_pos (by simp [*]), tk, c_69]; rfl, by exact ⟨rfl, rfl, rfl, rfl, rfl, rfl, rfl, rfl, rfl, rfl, rfl, rfl, rfl, rfl, rfl, rfl, rfl⟩⟩) dX1_way_129 (by first | exact Nat.le_refl _ | decide) (by first | exact Nat.le_refl _ | decide)
              · refine lv_bipush (v := (-3)) F.x F.b dX1_way_86 (by decide) ?_
                exact g_iret (u := (va_up S.1 0 (0), S.2)) F I (by exact ⟨by rw [aWay, if_pos c_9, if_pos c_19, if_pos (by simp [*]), tk, if_pos c_69, if_pos c_83], by rw [fWay, if_pos (by simp [*]), tk, c_69]; rfl, by exact ⟨rfl, rfl, rfl, rfl, rfl, rfl, rfl, rfl, rfl, rfl, rfl, rfl, rfl, rfl, rfl, rfl, rfl⟩⟩) dX1_way_88 (by first | exact Nat.le_refl _ | decide) (by first | exact Nat.le_refl _ | decide)
            · refine lv_aload_n F.x F.b dX1_way_72 rfl (lv_at hl 1 rfl) ?_
              refine lv_iload F.x F.b dX1_way_73 (lv_at hl 0 rfl) ?_
              refine g_calli I (g_runV (n := 1) (ci := 0) (q0 := 0) (As := [.int (agn L k ((nI (sr))) z ((nI (n))))]) (rest := []) F I (mt_fails l G o q ((va_up S.1 0 (0), S.2)) (agn L k ((nI (sr))) z ((nI (n))))   _) q1260 q1262 qs27 q56 q1263 hd_mt_fails ⟨Nat.le_of_ble_eq_true rfl, Nat.le_of_ble_eq_true rfl⟩ rfl rfl rfl rfl hl.1 rfl (lv_room (Nat.le_of_ble_eq_true rfl)) dX1_way_75 ⟨by first | exact Nat.le_refl _ | decide, by first | exact Nat.le_refl _ | decide⟩) (fun r u_ H locs hp I => ?_)
              obtain ⟨rfl, rfl⟩ := hp
              exact g_iret (u := (va_up (va_up S.1 0 (0)) 0 (agn L k ((nI (sr))) z ((nI (n)))), S.2)) F I (by exact ⟨by rw [aWay, if_pos c_9, if_pos c_19, if_pos (by simp [*]), tk, if_neg c_69], by rw [fWay, if_pos (by simp [*]), tk]; rfl, by exact ⟨rfl, rfl, rfl, rfl, rfl, rfl, rfl, rfl, rfl, rfl, rfl, rfl, rfl, rfl, rfl, rfl, rfl⟩⟩) dX1_way_78 (by first | exact Nat.le_refl _ | decide) (by first | exact Nat.le_refl _ | decide)
          · refine lv_bipush (v := (-2)) F.x F.b dX1_way_52 (by decide) ?_
            exact g_iret (u := (va_up S.1 0 (0), S.2)) F I (by exact ⟨by simp [aWay, *], by simp [fWay, *, va_up], by exact ⟨rfl, rfl, rfl, rfl, rfl, rfl, rfl, rfl, rfl, rfl, rfl, rfl, rfl, rfl, rfl, rfl, rfl⟩⟩) dX1_way_54 (by first | exact Nat.le_refl _ | decide) (by first | exact Nat.le_refl _ | decide)
    · refine lv_iconst (v := (-1)) F.x F.b dX1_way_22 (by decide) ?_
      exact g_iret (u := (va_up S.1 0 (0), S.2)) F I (by exact ⟨by simp [aWay, *], by simp [fWay, *, va_up], by exact ⟨rfl, rfl, rfl, rfl, rfl, rfl, rfl, rfl, rfl, rfl, rfl, rfl, rfl, rfl, rfl, rfl, rfl⟩⟩) dX1_way_23 (by first | exact Nat.le_refl _ | decide) (by first | exact Nat.le_refl _ | decide)
  · refine lv_bipush (v := (-2)) F.x F.b dX1_way_12 (by decide) ?_
    exact g_iret (u := (va_up S.1 0 (0), S.2)) F I (by exact ⟨by simp [aWay, *], by simp [fWay, *, va_up], by exact ⟨rfl, rfl, rfl, rfl, rfl, rfl, rfl, rfl, rfl, rfl, rfl, rfl, rfl, rfl, rfl, rfl, rfl⟩⟩) dX1_way_14 (by first | exact Nat.le_refl _ | decide) (by first | exact Nat.le_refl _ | decide)
