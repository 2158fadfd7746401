/-! PLAIN LAW, 5, and the reference: copying, odds -/
set_option maxRecDepth 100000
def cOk (L : LD) (k h : Nat) (v z u : Int32) : Bool := !decide (v < 0) && (!decide (z < 0) && (!decide (u < 0) && (!decide (nI (L 3 k) < v) && (!decide (nI (L 3 h) < z) && (!decide (nI (L 3 k) - v < u) && decide (u ≤ nI (L 3 h) - z))))))
def aCopy (L : LD) (x v y z u : Int32) : Int32 := if mWi x 0 3 && mWi y 0 3 then (if L 2 x.toNatClampNeg = 99 ∨ L 2 y.toNatClampNeg = 99 then -11 else if L 2 x.toNatClampNeg = L 2 y.toNatClampNeg then (if cOk L x.toNatClampNeg y.toNatClampNeg v z u then u else -13) else -12) else -1
def fCopy (L : LD) (x v y z u : Int32) : Int32 := if mWi x 0 3 && mWi y 0 3 then (if L 2 x.toNatClampNeg = 99 ∨ L 2 y.toNatClampNeg = 99 then 1 else if L 2 x.toNatClampNeg = L 2 y.toNatClampNeg then (if cOk L x.toNatClampNeg y.toNatClampNeg v z u then 0 else 3) else 2) else 0
def goCopy (L : LD) (x v y z u : Int32) : Bool := mWi x 0 3 && mWi y 0 3 && !decide (L 2 x.toNatClampNeg = 99 ∨ L 2 y.toNatClampNeg = 99) && decide (L 2 x.toNatClampNeg = L 2 y.toNatClampNeg) && cOk L x.toNatClampNeg y.toNatClampNeg v z u
def cCopy (L : LD) (C : Nat → Nat → Int32) (x v y z u : Int32) : Nat → Nat → Int32 := if goCopy L x v y z u then va_up C y.toNatClampNeg (va_cpy (C x.toNatClampNeg) (C y.toNatClampNeg) v.toNatClampNeg z.toNatClampNeg u.toNatClampNeg) else C
/-- cells lo .. hi of a run have been copied -/
def cpI (k h i j lo hi : Nat) (f g : Nat → Int32) : Prop := ∀ x, g x = if 60 * h + j + lo ≤ x ∧ x < 60 * h + j + hi then f (60 * k + i + (x - (60 * h + j))) else f x
theorem cpI_0 {k h i j lo : Nat} {f : Nat → Int32} : cpI k h i j lo lo f f := fun x => by rw [if_neg (by omega)]
theorem cp_up {k h i j r : Nat} {f g : Nat → Int32} (H : cpI k h i j 0 r f g) (hn : ¬ (60 * h + j ≤ 60 * k + i + r ∧ 60 * k + i + r < 60 * h + j + r)) : cpI k h i j 0 (r + 1) f (upd g (60 * h + j + r) (g (60 * k + i + r))) := by
  intro x
  unfold upd
  by_cases e : x = 60 * h + j + r
  · rw [if_pos e, if_pos (by omega), H, if_neg (by omega), e]
    congr 1; omega
  · rw [if_neg e, H x]
    by_cases d : 60 * h + j + 0 ≤ x ∧ x < 60 * h + j + r
    · rw [if_pos d, if_pos (by omega)]
    · rw [if_neg d, if_neg (by omega)]
theorem cp_dn {k h i j r n : Nat} {f g : Nat → Int32} (H : cpI k h i j (n - r) n f g) (hr : r < n) (hn : ¬ (60 * h + j + (n - r) ≤ 60 * k + i + (n - 1 - r) ∧ 60 * k + i + (n - 1 - r) < 60 * h + j + n)) : cpI k h i j (n - (r + 1)) n f (upd g (60 * h + j + (n - 1 - r)) (g (60 * k + i + (n - 1 - r)))) := by
  intro x
  unfold upd
  by_cases e : x = 60 * h + j + (n - 1 - r)
  · rw [if_pos e, if_pos (by omega), H, if_neg (by omega), e]
    congr 1; omega
  · rw [if_neg e, H x]
    by_cases d : 60 * h + j + (n - r) ≤ x ∧ x < 60 * h + j + n
    · rw [if_pos d, if_pos (by omega)]
    · rw [if_neg d, if_neg (by omega)]
theorem cp_end {S S1 : MS} {L : LD} {C : Nat → Nat → Int32} {k h i j n : Nat} (hC : mSh S L C) (hO : SOk L) (hk : k < 4) (hh : h < 4) (sk : L 2 k ≠ 99) (sh : L 2 h ≠ 99) (hi : i + n ≤ L 3 k) (hj : j + n ≤ L 3 h) (e2 : S1.2 2 = S.2 2) (e3 : S1.2 3 = S.2 3) (H : cpI k h i j 0 n (S.2 4) (S1.2 4)) : mSh S1 L (va_up C h (va_cpy (C k) (C h) i j n)) := by
  refine ⟨fun a ha => by rw [e2]; exact hC.1 a ha, fun a ha hs => ⟨by rw [e3]; exact (hC.2 a ha hs).1, fun t ht => ?_⟩⟩
  have b1 := (hO k hk).2 sk
  have b2 := (hO h hh).2 sh
  have b3 := (hO a ha).2 hs
  rw [H]
  unfold va_up va_cpy
  by_cases e : a = h
  · subst e
    rw [if_pos rfl]
    by_cases d : j ≤ t ∧ t < j + n
    · rw [if_pos d, if_pos (by omega), ← (hC.2 k hk sk).2 (i + (t - j)) (by omega)]
      exact congrArg (S.2 4) (by omega)
    · rw [if_neg d, if_neg (by omega)]; exact (hC.2 a ha hs).2 t ht
  · rw [if_neg e, if_neg (by omega)]; exact (hC.2 a ha hs).2 t ht
theorem le_n2 {x : Int32} {m : Nat} (h0 : ¬ x < 0) (h : ¬ nI m < x) (hm : m < 2 ^ 31) : ∃ j, j ≤ m ∧ x = nI j := le_n (Int32.not_lt.mp h) (Int32.not_lt.mp h0) hm
theorem sub_n2 {x : Int32} {m i : Nat} (h0 : ¬ x < 0) (h : ¬ nI m - nI i < x) (hi : i ≤ m) (hm : m < 2 ^ 31) : ∃ j, i + j ≤ m ∧ x = nI j := by
  rw [pk_sub hi] at h
  obtain ⟨j, hj, e⟩ := le_n2 h0 h (by omega)
  exact ⟨j, by omega, e⟩
theorem eN_eq2 {a b : Nat} (ha : a = 99 ∨ a ≤ 2) (hb : b = 99 ∨ b ≤ 2) : eN a = eN b ↔ a = b := eN_inj (by omega) (by omega)

theorem hd_mt_copy : yX1_copy.cls = RX1 ∧ yX1_copy.cls ≠ "java/lang/invoke/MethodHandle" ∧ yX1_copy.cls ≠ "java/lang/invoke/VarHandle" ∧ (parseMethodDescriptor yX1_copy.desc).map (fun d => d.parameters.length) = some 5 := by decide +kernel
set_option maxHeartbeats 4000000 in
theorem mt_copy (l : Launch) (G : gG) (o : Nat) (q : Nat → Nat) (S : MS) (x : Int32) (v : Int32) (y : Int32) (z : Int32) (u : Int32) (L : LD) (C : Nat → Nat → Int32) (hO : SOk L) (hC : mSh S L C) : gMi l yX1_copy cX1_copy 10 (some .int) ({ frames := 2, cells := 0, slots := 0, locals := 42 } : Room) G [.ref o, .int (x), .int (v), .int (y), .int (z), .int (u)] (mW G o q S) (fun S' => mW G o q S') (fun ρ S' => aCopy L x v y z u = ρ ∧ S'.1 0 = fCopy L x v y z u ∧ mSh S' L (cCopy L C x v y z u) ∧ mKeep (va_up S'.1 0 (S.1 0), va_up S'.2 4 (S.2 4)) S) := by
  refine gMi_of (by decide) (Nat.le_of_ble_eq_true rfl) ?_
  intro p e s m below meth c ls A F I hl
  have hl : lv_has ls 10 [(0, .ref (o)), (1, .int (x)), (2, .int (v)), (3, .int (y)), (4, .int (z)), (5, .int (u))] := hl
  refine lv_aload_n F.x F.b dX1_copy_0 rfl (lv_at hl 0 rfl) ?_
  refine lv_iconst (v := nI (0)) F.x F.b dX1_copy_1 (by decide) ?_
  refine m_put F I 0 (by decide) q1155 dX1_copy_2 (fun H locs (I : Iw G A s (mW G o q (va_up S.1 0 (0), S.2)) H locs) => ?_)
  refine lv_iload_n F.x F.b dX1_copy_5 rfl (lv_at hl 1 rfl) ?_
  refine g_calli I (g_runS (n := 1) (As := [.int (x)]) (rest := []) F I (mt_isSheet l G _ (x)   _) q1247 q1248 q56 q1249 hd_mt_isSheet.2 ⟨Nat.le_of_ble_eq_true rfl, Nat.le_of_ble_eq_true rfl⟩ rfl rfl hl.1 rfl (lv_room (Nat.le_of_ble_eq_true rfl)) dX1_copy_6 ⟨by first | exact Nat.le_refl _ | decide, by first | exact Nat.le_refl _ | decide⟩) (fun r u_ H locs hp I => ?_)
  obtain rfl := hp
  refine z_eq (tgt := 19) F dX1_copy_9 (by decide) (fun c_9 => ?_) (fun c_9 => ?_)
  · refine lv_iconst (v := (-1)) F.x F.b dX1_copy_19 (by decide) ?_
    exact g_iret (u := (va_up S.1 0 (0), S.2)) F I (by exact ⟨by simp [aCopy, cOk, *], by simp [fCopy, cOk, *, va_up], by rw [cCopy, if_neg (by simp [goCopy, cOk, *])]; exact hC, by exact ⟨rfl, rfl, rfl, rfl, rfl, rfl, rfl, rfl, rfl, rfl, rfl, rfl, rfl, rfl, rfl, rfl, rfl⟩⟩) dX1_copy_20 (by first | exact Nat.le_refl _ | decide) (by first | exact Nat.le_refl _ | decide)
  · obtain ⟨k, hk, rfl⟩ := wi_n (m := 3) (by decide) c_9
    have tk : (nI k).toNatClampNeg = k := nI_clamp (by omega)
    refine lv_iload_n F.x F.b dX1_copy_12 rfl (lv_at hl 3 rfl) ?_
    refine g_calli I (g_runS (n := 1) (As := [.int (y)]) (rest := []) F I (mt_isSheet l G _ (y)   _) q1247 q1248 q56 q1249 hd_mt_isSheet.2 ⟨Nat.le_of_ble_eq_true rfl, Nat.le_of_ble_eq_true rfl⟩ rfl rfl hl.1 rfl (lv_room (Nat.le_of_ble_eq_true rfl)) dX1_copy_13 ⟨by first | exact Nat.le_refl _ | decide, by first | exact Nat.le_refl _ | decide⟩) (fun r u_ H locs hp I => ?_)
    obtain rfl := hp
    refine z_ne (tgt := 21) F dX1_copy_16 (by decide) (fun c_16 => ?_) (fun c_16 => ?_)
    · obtain ⟨h, hh, rfl⟩ := wi_n (m := 3) (by decide) c_16
      have th : (nI h).toNatClampNeg = h := nI_clamp (by omega)
      have hOk := hO k (by omega)
      have hOh := hO h (by omega)
      refine lv_aload_n F.x F.b dX1_copy_21 rfl (lv_at hl 0 rfl) ?_
      refine m_geta F I 2 (by decide) q1157 dX1_copy_22 ?_
      refine lv_iload_n F.x F.b dX1_copy_25 rfl (lv_at hl 1 rfl) ?_
      refine m_ld (v := ((S.2 2) (k))) F I 2 (by decide) (show k < 4 by omega) rfl dX1_copy_26 ?_
      refine W.val (y := eN (L 2 k)) (by exact hC.1 k (by omega)) ?_
      refine lv_bipush (v := (-9)) F.x F.b dX1_copy_27 (by decide) ?_
      refine e9_eq (tgt := 43) F (by omega) dX1_copy_29 (by decide) (fun c_29 => ?_) (fun c_29 => ?_)
      · refine lv_aload_n F.x F.b dX1_copy_43 rfl (lv_at hl 0 rfl) ?_
        refine lv_iconst (v := nI (1)) F.x F.b dX1_copy_44 (by decide) ?_
        refine g_calli I (g_runV (n := 1) (ci := 0) (q0 := 0) (As := [.int (nI (1))]) (rest := []) F I (mt_fails l G o q ((va_up S.1 0 (0), S.2)) (1)   _) q1260 q1262 qs27 q56 q1263 hd_mt_fails ⟨Nat.le_of_ble_eq_true rfl, Nat.le_of_ble_eq_true rfl⟩ rfl rfl rfl rfl hl.1 rfl (lv_room (Nat.le_of_ble_eq_true rfl)) dX1_copy_45 ⟨by first | exact Nat.le_refl _ | decide, by first | exact Nat.le_refl _ | decide⟩) (fun r u_ H locs hp I => ?_)
        obtain ⟨rfl, rfl⟩ := hp
        exact g_iret (u := (va_up (va_up S.1 0 (0)) 0 (1), S.2)) F I (by exact ⟨by simp [aCopy, cOk, *], by simp [fCopy, cOk, *, va_up], by rw [cCopy, if_neg (by simp [goCopy, cOk, *])]; exact hC, by exact ⟨rfl, rfl, rfl, rfl, rfl, rfl, rfl, rfl, rfl, rfl, rfl, rfl, rfl, rfl, rfl, rfl, rfl⟩⟩) dX1_copy_48 (by first | exact Nat.le_refl _ | decide) (by first | exact Nat.le_refl _ | decide)
      · refine lv_aload_n F.x F.b dX1_copy_32 rfl (lv_at hl 0 rfl) ?_
        refine m_geta F I 2 (by decide) q1157 dX1_copy_33 ?_
        refine lv_iload_n F.x F.b dX1_copy_36 rfl (lv_at hl 3 rfl) ?_
        refine m_ld (v := ((S.2 2) (h))) F I 2 (by decide) (show h < 4 by omega) rfl dX1_copy_37 ?_
        refine W.val (y := eN (L 2 h)) (by exact hC.1 h (by omega)) ?_
        refine lv_bipush (v := (-9)) F.x F.b dX1_copy_38 (by decide) ?_
        refine e9_ne (tgt := 49) F (by omega) dX1_copy_40 (by decide) (fun c_40 => ?_) (fun c_40 => ?_)
        · have h3k := hC.2 k (by omega) c_29
          have h3h := hC.2 h (by omega) c_40
          have b3k := hOk.2 c_29
          have b3h := hOh.2 c_40
          refine lv_aload_n F.x F.b dX1_copy_49 rfl (lv_at hl 0 rfl) ?_
          refine m_geta F I 2 (by decide) q1157 dX1_copy_50 ?_
          refine lv_iload_n F.x F.b dX1_copy_53 rfl (lv_at hl 1 rfl) ?_
          refine m_ld (v := ((S.2 2) (k))) F I 2 (by decide) (show k < 4 by omega) rfl dX1_copy_54 ?_
          refine W.val (y := eN (L 2 k)) (by exact hC.1 k (by omega)) ?_
          refine lv_aload_n F.x F.b dX1_copy_55 rfl (lv_at hl 0 rfl) ?_
          refine m_geta F I 2 (by decide) q1157 dX1_copy_56 ?_
          refine lv_iload_n F.x F.b dX1_copy_59 rfl (lv_at hl 3 rfl) ?_
          refine m_ld (v := ((S.2 2) (h))) F I 2 (by decide) (show h < 4 by omega) rfl dX1_copy_60 ?_
          refine W.val (y := eN (L 2 h)) (by exact hC.1 h (by omega)) ?_
          refine lv_icmp_eq (x := (eN (L 2 k))) (y := (eN (L 2 h))) (tgt := 70) F.x F.b dX1_copy_61 (by decide) (fun c_61 => ?_) (fun c_61 => ?_)
          · have hse : L 2 k = L 2 h := (eN_eq2 hOk.1 hOh.1).mp c_61
            refine lv_iload_n F.x F.b dX1_copy_70 rfl (lv_at hl 2 rfl) ?_
            refine lv_if_lt (x := v) (tgt := 109) F.x F.b dX1_copy_71 (by decide) (fun c_71 => ?_) (fun c_71 => ?_)
            · refine lv_iconst (v := nI (0)) F.x F.b dX1_copy_109 (by decide) ?_
              refine lv_istore (lv' := [(6, .int (nI (0))), (0, .ref (o)), (1, .int (nI (k))), (2, .int (v)), (3, .int (nI (h))), (4, .int (z)), (5, .int (u))]) F.x F.b dX1_copy_110 hl (by decide) rfl (fun ls hl => ?_)
              refine lv_iload F.x F.b dX1_copy_112 (lv_at hl 0 rfl) ?_
              refine n_if_eq (tgt := 144) F (by omega) dX1_copy_114 (by decide) (fun c_114 => ?_) (fun c_114 => absurd c_114 (by decide))
              refine lv_aload_n F.x F.b dX1_copy_144 rfl (lv_at hl 1 rfl) ?_
              refine lv_iconst (v := nI (3)) F.x F.b dX1_copy_145 (by decide) ?_
              refine g_calli I (g_runV (n := 1) (ci := 0) (q0 := 0) (As := [.int (nI (3))]) (rest := []) F I (mt_fails l G o q ((va_up S.1 0 (0), S.2)) (3)   _) q1260 q1262 qs27 q56 q1263 hd_mt_fails ⟨Nat.le_of_ble_eq_true rfl, Nat.le_of_ble_eq_true rfl⟩ rfl rfl rfl rfl hl.1 rfl (lv_room (Nat.le_of_ble_eq_true rfl)) dX1_copy_146 ⟨by first | exact Nat.le_refl _ | decide, by first | exact Nat.le_refl _ | decide⟩) (fun r u_ H locs hp I => ?_)
              obtain ⟨rfl, rfl⟩ := hp
              exact g_iret (u := (va_up (va_up S.1 0 (0)) 0 (3), S.2)) F I (by exact ⟨by simp [aCopy, cOk, *], by simp [fCopy, cOk, *, va_up], by rw [cCopy, if_neg (by simp [goCopy, cOk, *])]; exact hC, by exact ⟨rfl, rfl, rfl, rfl, rfl, rfl, rfl, rfl, rfl, rfl, rfl, rfl, rfl, rfl, rfl, rfl, rfl⟩⟩) dX1_copy_149 (by first | exact Nat.le_refl _ | decide) (by first | exact Nat.le_refl _ | decide)
            · refine lv_iload F.x F.b dX1_copy_74 (lv_at hl 4 rfl) ?_
              refine lv_if_lt (x := z) (tgt := 109) F.x F.b dX1_copy_76 (by decide) (fun c_76 => ?_) (fun c_76 => ?_)
              · refine lv_iconst (v := nI (0)) F.x F.b dX1_copy_109 (by decide) ?_
                refine lv_istore (lv' := [(6, .int (nI (0))), (0, .ref (o)), (1, .int (nI (k))), (2, .int (v)), (3, .int (nI (h))), (4, .int (z)), (5, .int (u))]) F.x F.b dX1_copy_110 hl (by decide) rfl (fun ls hl => ?_)
                refine lv_iload F.x F.b dX1_copy_112 (lv_at hl 0 rfl) ?_
                refine n_if_eq (tgt := 144) F (by omega) dX1_copy_114 (by decide) (fun c_114 => ?_) (fun c_114 => absurd c_114 (by decide))
                refine lv_aload_n F.x F.b dX1_copy_144 rfl (lv_at hl 1 rfl) ?_
                refine lv_iconst (v := nI (3)) F.x F.b dX1_copy_145 (by decide) ?_
                refine g_calli I (g_runV (n := 1) (ci := 0) (q0 := 0) (As := [.int (nI (3))]) (rest := []) F I (mt_fails l G o q ((va_up S.1 0 (0), S.2)) (3)   _) q1260 q1262 qs27 q56 q1263 hd_mt_fails ⟨Nat.le_of_ble_eq_true rfl, Nat.le_of_ble_eq_true rfl⟩ rfl rfl rfl rfl hl.1 rfl (lv_room (Nat.le_of_ble_eq_true rfl)) dX1_copy_146 ⟨by first | exact Nat.le_refl _ | decide, by first | exact Nat.le_refl _ | decide⟩) (fun r u_ H locs hp I => ?_)
                obtain ⟨rfl, rfl⟩ := hp
                exact g_iret (u := (va_up (va_up S.1 0 (0)) 0 (3), S.2)) F I (by exact ⟨by simp [aCopy, cOk, *], by simp [fCopy, cOk, *, va_up], by rw [cCopy, if_neg (by simp [goCopy, cOk, *])]; exact hC, by exact ⟨rfl, rfl, rfl, rfl, rfl, rfl, rfl, rfl, rfl, rfl, rfl, rfl, rfl, rfl, rfl, rfl, rfl⟩⟩) dX1_copy_149 (by first | exact Nat.le_refl _ | decide) (by first | exact Nat.le_refl _ | decide)
              · refine lv_iload F.x F.b dX1_copy_79 (lv_at hl 5 rfl) ?_
                refine lv_if_lt (x := u) (tgt := 109) F.x F.b dX1_copy_81 (by decide) (fun c_81 => ?_) (fun c_81 => ?_)
                · refine lv_iconst (v := nI (0)) F.x F.b dX1_copy_109 (by decide) ?_
                  refine lv_istore (lv' := [(6, .int (nI (0))), (0, .ref (o)), (1, .int (nI (k))), (2, .int (v)), (3, .int (nI (h))), (4, .int (z)), (5, .int (u))]) F.x F.b dX1_copy_110 hl (by decide) rfl (fun ls hl => ?_)
                  refine lv_iload F.x F.b dX1_copy_112 (lv_at hl 0 rfl) ?_
                  refine n_if_eq (tgt := 144) F (by omega) dX1_copy_114 (by decide) (fun c_114 => ?_) (fun c_114 => absurd c_114 (by decide))
                  refine lv_aload_n F.x F.b dX1_copy_144 rfl (lv_at hl 1 rfl) ?_
                  refine lv_iconst (v := nI (3)) F.x F.b dX1_copy_145 (by decide) ?_
                  refine g_calli I (g_runV (n := 1) (ci := 0) (q0 := 0) (As := [.int (nI (3))]) (rest := []) F I (mt_fails l G o q ((va_up S.1 0 (0), S.2)) (3)   _) q1260 q1262 qs27 q56 q1263 hd_mt_fails ⟨Nat.le_of_ble_eq_true rfl, Nat.le_of_ble_eq_true rfl⟩ rfl rfl rfl rfl hl.1 rfl (lv_room (Nat.le_of_ble_eq_true rfl)) dX1_copy_146 ⟨by first | exact Nat.le_refl _ | decide, by first | exact Nat.le_refl _ | decide⟩) (fun r u_ H locs hp I => ?_)
                  obtain ⟨rfl, rfl⟩ := hp
                  exact g_iret (u := (va_up (va_up S.1 0 (0)) 0 (3), S.2)) F I (by exact ⟨by simp [aCopy, cOk, *], by simp [fCopy, cOk, *, va_up], by rw [cCopy, if_neg (by simp [goCopy, cOk, *])]; exact hC, by exact ⟨rfl, rfl, rfl, rfl, rfl, rfl, rfl, rfl, rfl, rfl, rfl, rfl, rfl, rfl, rfl, rfl, rfl⟩⟩) dX1_copy_149 (by first | exact Nat.le_refl _ | decide) (by first | exact Nat.le_refl _ | decide)
                · refine lv_iload_n F.x F.b dX1_copy_84 rfl (lv_at hl 2 rfl) ?_
                  refine lv_aload_n F.x F.b dX1_copy_85 rfl (lv_at hl 0 rfl) ?_
                  refine m_geta F I 3 (by decide) q1158 dX1_copy_86 ?_
                  refine lv_iload_n F.x F.b dX1_copy_89 rfl (lv_at hl 1 rfl) ?_
                  refine m_ld (v := ((S.2 3) (k))) F I 3 (by decide) (show k < 4 by omega) rfl dX1_copy_90 ?_
                  refine W.val (y := nI (L 3 k)) (by exact h3k.1) ?_
                  refine lv_icmp_gt (x := v) (y := (nI (L 3 k))) (tgt := 109) F.x F.b dX1_copy_91 (by decide) (fun c_91 => ?_) (fun c_91 => ?_)
                  · refine lv_iconst (v := nI (0)) F.x F.b dX1_copy_109 (by decide) ?_
                    refine lv_istore (lv' := [(6, .int (nI (0))), (0, .ref (o)), (1, .int (nI (k))), (2, .int (v)), (3, .int (nI (h))), (4, .int (z)), (5, .int (u))]) F.x F.b dX1_copy_110 hl (by decide) rfl (fun ls hl => ?_)
                    refine lv_iload F.x F.b dX1_copy_112 (lv_at hl 0 rfl) ?_
                    refine n_if_eq (tgt := 144) F (by omega) dX1_copy_114 (by decide) (fun c_114 => ?_) (fun c_114 => absurd c_114 (by decide))
                    refine lv_aload_n F.x F.b dX1_copy_144 rfl (lv_at hl 1 rfl) ?_
                    refine lv_iconst (v := nI (3)) F.x F.b dX1_copy_145 (by decide) ?_
                    refine g_calli I (g_runV (n := 1) (ci := 0) (q0 := 0) (As := [.int (nI (3))]) (rest := []) F I (mt_fails l G o q ((va_up S.1 0 (0), S.2)) (3)   _) q1260 q1262 qs27 q56 q1263 hd_mt_fails ⟨Nat.le_of_ble_eq_true rfl, Nat.le_of_ble_eq_true rfl⟩ rfl rfl rfl rfl hl.1 rfl (lv_room (Nat.le_of_ble_eq_true rfl)) dX1_copy_146 ⟨by first | exact Nat.le_refl _ | decide, by first | exact Nat.le_refl _ | decide⟩) (fun r u_ H locs hp I => ?_)
                    obtain ⟨rfl, rfl⟩ := hp
                    exact g_iret (u := (va_up (va_up S.1 0 (0)) 0 (3), S.2)) F I (by exact ⟨by simp [aCopy, cOk, *], by simp [fCopy, cOk, *, va_up], by rw [cCopy, if_neg (by simp [goCopy, cOk, *])]; exact hC, by exact ⟨rfl, rfl, rfl, rfl, rfl, rfl, rfl, rfl, rfl, rfl, rfl, rfl, rfl, rfl, rfl, rfl, rfl⟩⟩) dX1_copy_149 (by first | exact Nat.le_refl _ | decide) (by first | exact Nat.le_refl _ | decide)
                  · refine lv_iload F.x F.b dX1_copy_94 (lv_at hl 4 rfl) ?_
                    refine lv_aload_n F.x F.b dX1_copy_96 rfl (lv_at hl 0 rfl) ?_
                    refine m_geta F I 3 (by decide) q1158 dX1_copy_97 ?_
                    refine lv_iload_n F.x F.b dX1_copy_100 rfl (lv_at hl 3 rfl) ?_
                    refine m_ld (v := ((S.2 3) (h))) F I 3 (by decide) (show h < 4 by omega) rfl dX1_copy_101 ?_
                    refine W.val (y := nI (L 3 h)) (by exact h3h.1) ?_
                    refine lv_icmp_gt (x := z) (y := (nI (L 3 h))) (tgt := 109) F.x F.b dX1_copy_102 (by decide) (fun c_102 => ?_) (fun c_102 => ?_)
                    · refine lv_iconst (v := nI (0)) F.x F.b dX1_copy_109 (by decide) ?_
                      refine lv_istore (lv' := [(6, .int (nI (0))), (0, .ref (o)), (1, .int (nI (k))), (2, .int (v)), (3, .int (nI (h))), (4, .int (z)), (5, .int (u))]) F.x F.b dX1_copy_110 hl (by decide) rfl (fun ls hl => ?_)
                      refine lv_iload F.x F.b dX1_copy_112 (lv_at hl 0 rfl) ?_
                      refine n_if_eq (tgt := 144) F (by omega) dX1_copy_114 (by decide) (fun c_114 => ?_) (fun c_114 => absurd c_114 (by decide))
                      refine lv_aload_n F.x F.b dX1_copy_144 rfl (lv_at hl 1 rfl) ?_
                      refine lv_iconst (v := nI (3)) F.x F.b dX1_copy_145 (by decide) ?_
                      refine g_calli I (g_runV (n := 1) (ci := 0) (q0 := 0) (As := [.int (nI (3))]) (rest := []) F I (mt_fails l G o q ((va_up S.1 0 (0), S.2)) (3)   _) q1260 q1262 qs27 q56 q1263 hd_mt_fails ⟨Nat.le_of_ble_eq_true rfl, Nat.le_of_ble_eq_true rfl⟩ rfl rfl rfl rfl hl.1 rfl (lv_room (Nat.le_of_ble_eq_true rfl)) dX1_copy_146 ⟨by first | exact Nat.le_refl _ | decide, by first | exact Nat.le_refl _ | decide⟩) (fun r u_ H locs hp I => ?_)
                      obtain ⟨rfl, rfl⟩ := hp
                      exact g_iret (u := (va_up (va_up S.1 0 (0)) 0 (3), S.2)) F I (by exact ⟨by simp [aCopy, cOk, *], by simp [fCopy, cOk, *, va_up], by rw [cCopy, if_neg (by simp [goCopy, cOk, *])]; exact hC, by exact ⟨rfl, rfl, rfl, rfl, rfl, rfl, rfl, rfl, rfl, rfl, rfl, rfl, rfl, rfl, rfl, rfl, rfl⟩⟩) dX1_copy_149 (by first | exact Nat.le_refl _ | decide) (by first | exact Nat.le_refl _ | decide)
                    · refine lv_iconst (v := nI (1)) F.x F.b dX1_copy_105 (by decide) ?_
                      refine lv_goto (tgt := 110) F.x F.b dX1_copy_106 (by decide) ?_
                      refine lv_istore (lv' := [(6, .int (nI (1))), (0, .ref (o)), (1, .int (nI (k))), (2, .int (v)), (3, .int (nI (h))), (4, .int (z)), (5, .int (u))]) F.x F.b dX1_copy_110 hl (by decide) rfl (fun ls hl => ?_)
                      refine lv_iload F.x F.b dX1_copy_112 (lv_at hl 0 rfl) ?_
                      refine n_if_eq (tgt := 144) F (by omega) dX1_copy_114 (by decide) (fun c_114 => absurd c_114 (by decide)) (fun c_114 => ?_)
                      refine lv_iload F.x F.b dX1_copy_117 (lv_at hl 6 rfl) ?_
                      refine lv_aload_n F.x F.b dX1_copy_119 rfl (lv_at hl 1 rfl) ?_
                      refine m_geta F I 3 (by decide) q1158 dX1_copy_120 ?_
                      refine lv_iload_n F.x F.b dX1_copy_123 rfl (lv_at hl 2 rfl) ?_
                      refine m_ld (v := ((S.2 3) (k))) F I 3 (by decide) (show k < 4 by omega) rfl dX1_copy_124 ?_
                      refine W.val (y := nI (L 3 k)) (by exact h3k.1) ?_
                      refine lv_iload_n F.x F.b dX1_copy_125 rfl (lv_at hl 3 rfl) ?_
                      refine lv_isub (x := (nI (L 3 k))) (y := v) F.x F.b dX1_copy_126 ?_
                      refine lv_icmp_gt (x := u) (y := ((nI (L 3 k)) - v)) (tgt := 144) F.x F.b dX1_copy_127 (by decide) (fun c_127 => ?_) (fun c_127 => ?_)
                      · refine lv_aload_n F.x F.b dX1_copy_144 rfl (lv_at hl 1 rfl) ?_
                        refine lv_iconst (v := nI (3)) F.x F.b dX1_copy_145 (by decide) ?_
                        refine g_calli I (g_runV (n := 1) (ci := 0) (q0 := 0) (As := [.int (nI (3))]) (rest := []) F I (mt_fails l G o q ((va_up S.1 0 (0), S.2)) (3)   _) q1260 q1262 qs27 q56 q1263 hd_mt_fails ⟨Nat.le_of_ble_eq_true rfl, Nat.le_of_ble_eq_true rfl⟩ rfl rfl rfl rfl hl.1 rfl (lv_room (Nat.le_of_ble_eq_true rfl)) dX1_copy_146 ⟨by first | exact Nat.le_refl _ | decide, by first | exact Nat.le_refl _ | decide⟩) (fun r u_ H locs hp I => ?_)
                        obtain ⟨rfl, rfl⟩ := hp
                        exact g_iret (u := (va_up (va_up S.1 0 (0)) 0 (3), S.2)) F I (by exact ⟨by simp [aCopy, cOk, *], by simp [fCopy, cOk, *, va_up], by rw [cCopy, if_neg (by simp [goCopy, cOk, *])]; exact hC, by exact ⟨rfl, rfl, rfl, rfl, rfl, rfl, rfl, rfl, rfl, rfl, rfl, rfl, rfl, rfl, rfl, rfl, rfl⟩⟩) dX1_copy_149 (by first | exact Nat.le_refl _ | decide) (by first | exact Nat.le_refl _ | decide)
                      · refine lv_iload F.x F.b dX1_copy_130 (lv_at hl 6 rfl) ?_
                        refine lv_aload_n F.x F.b dX1_copy_132 rfl (lv_at hl 1 rfl) ?_
                        refine m_geta F I 3 (by decide) q1158 dX1_copy_133 ?_
                        refine lv_iload_n F.x F.b dX1_copy_136 rfl (lv_at hl 4 rfl) ?_
                        refine m_ld (v := ((S.2 3) (h))) F I 3 (by decide) (show h < 4 by omega) rfl dX1_copy_137 ?_
                        refine W.val (y := nI (L 3 h)) (by exact h3h.1) ?_
                        refine lv_iload F.x F.b dX1_copy_138 (lv_at hl 5 rfl) ?_
                        refine lv_isub (x := (nI (L 3 h))) (y := z) F.x F.b dX1_copy_140 ?_
                        refine lv_icmp_le (x := u) (y := ((nI (L 3 h)) - z)) (tgt := 150) F.x F.b dX1_copy_141 (by decide) (fun c_141 => ?_) (fun c_141 => ?_)
                        · obtain ⟨i, hi, rfl⟩ := le_n2 c_71 c_91 (by omega)
                          have ti : (nI i).toNatClampNeg = i := nI_clamp (by omega)
                          obtain ⟨j, hj, rfl⟩ := le_n2 c_76 c_102 (by omega)
                          have tj : (nI j).toNatClampNeg = j := nI_clamp (by omega)
                          obtain ⟨n, hn, rfl⟩ := sub_n2 c_81 c_127 hi (by omega)
                          have tn : (nI n).toNatClampNeg = n := nI_clamp (by omega)
                          have hjn : j + n ≤ L 3 h := by have h9 := c_141; rw [pk_sub hj, nI_leI (by omega) (by omega)] at h9; omega
                          refine lv_iload_n F.x F.b dX1_copy_150 rfl (lv_at hl 3 rfl) ?_
                          refine lv_iload F.x F.b dX1_copy_151 (lv_at hl 5 rfl) ?_
                          refine n_icmp_ge (tgt := 160) F (by omega) (by omega) dX1_copy_153 (by decide) (fun c_153 => ?_) (fun c_153 => ?_)
                          · refine lv_iconst (v := nI (0)) F.x F.b dX1_copy_160 (by decide) ?_
                            refine lv_istore (lv' := [(7, .int (nI (0))), (6, .int (nI (1))), (0, .ref (o)), (1, .int (nI (k))), (2, .int (nI (i))), (3, .int (nI (h))), (4, .int (nI (j))), (5, .int (nI (n)))]) F.x F.b dX1_copy_161 hl (by decide) rfl (fun ls hl => ?_)
                            refine lv_iconst (v := nI (0)) F.x F.b dX1_copy_163 (by decide) ?_
                            refine lv_istore (lv' := [(8, .int (nI (0))), (7, .int (nI (0))), (6, .int (nI (1))), (0, .ref (o)), (1, .int (nI (k))), (2, .int (nI (i))), (3, .int (nI (h))), (4, .int (nI (j))), (5, .int (nI (n)))]) F.x F.b dX1_copy_164 hl (by decide) rfl (fun ls hl => ?_)
                            refine W_ind 166 (fun _ => []) (fun n_J => n_J) (fun n_J H locs ls => ∃ (r : Nat) (S1 : MS), n_J = n - r ∧ (r ≤ n) ∧ (S1.1 0 = 0) ∧ (mKeep (va_up S1.1 0 (S.1 0), va_up S1.2 4 (S.2 4)) S) ∧ (cpI k h i j 0 r (S.2 4) (S1.2 4)) ∧  Iw G A s (mW G o q S1) H locs ∧ lv_has ls 10 [(0, .ref (o)), (1, .int (nI (k))), (2, .int (nI (i))), (3, .int (nI (h))), (4, .int (nI (j))), (5, .int (nI (n))), (7, .int (nI (0))), (8, .int (nI (r)))]) ?_ _ ⟨0, (va_up S.1 0 (0), S.2), rfl, by omega, by rfl, by exact ⟨rfl, rfl, rfl, rfl, rfl, rfl, rfl, rfl, rfl, rfl, rfl, rfl, rfl, rfl, rfl, rfl, rfl⟩, by exact cpI_0, I, lv_sub hl [3, 4, 5, 6, 7, 8, 1, 0] rfl⟩
                            intro n166 H locs ls hJ ih166
                            obtain ⟨r, S1, hn166, hr, hf, hkk, hcp, I, hl⟩ := hJ
                            refine lv_iload F.x F.b dX1_copy_166 (lv_at hl 7 rfl) ?_
                            refine lv_iload F.x F.b dX1_copy_168 (lv_at hl 5 rfl) ?_
                            refine n_icmp_ge (tgt := 227) F (by omega) (by omega) dX1_copy_170 (by decide) (fun c_170 => ?_) (fun c_170 => ?_)
                            · refine lv_iload F.x F.b dX1_copy_227 (lv_at hl 5 rfl) ?_
                              exact g_iret (u := S1) F I (by exact ⟨by simp [aCopy, cOk, *], by rw [fCopy, if_pos (by simp [*]), tk, th, if_neg (by simp [*]), if_pos hse, if_pos (by simp [cOk, *])]; exact hf, by rw [cCopy, if_pos (by simp [goCopy, cOk, *]), tk, th, ti, tj, tn]; exact cp_end hC hO (by omega) (by omega) c_29 c_40 hn hjn hkk.2.2.2.2.2.1.symm hkk.2.2.2.2.2.2.1.symm (by rw [show r = n by omega] at hcp; exact hcp), hkk⟩) dX1_copy_229 (by first | exact Nat.le_refl _ | decide) (by first | exact Nat.le_refl _ | decide)
                            · refine lv_iload F.x F.b dX1_copy_173 (lv_at hl 6 rfl) ?_
                              refine n_if_eq (tgt := 188) F (by omega) dX1_copy_175 (by decide) (fun c_175 => ?_) (fun c_175 => absurd c_175 (by decide))
                              refine lv_iload F.x F.b dX1_copy_188 (lv_at hl 7 rfl) ?_
                              refine lv_istore (lv' := [(9, .int (nI (r))), (0, .ref (o)), (1, .int (nI (k))), (2, .int (nI (i))), (3, .int (nI (h))), (4, .int (nI (j))), (5, .int (nI (n))), (7, .int (nI (0))), (8, .int (nI (r)))]) F.x F.b dX1_copy_190 hl (by decide) rfl (fun ls hl => ?_)
                              refine lv_aload_n F.x F.b dX1_copy_192 rfl (lv_at hl 1 rfl) ?_
                              refine m_geta F I 4 (by decide) q1159 dX1_copy_193 ?_
                              refine lv_bipush (v := nI (60)) F.x F.b dX1_copy_196 (by decide) ?_
                              refine lv_iload_n F.x F.b dX1_copy_198 rfl (lv_at hl 4 rfl) ?_
                              refine n_imul F dX1_copy_199 ?_
                              refine lv_iload F.x F.b dX1_copy_200 (lv_at hl 5 rfl) ?_
                              refine n_iadd F dX1_copy_202 ?_
                              refine lv_iload F.x F.b dX1_copy_203 (lv_at hl 0 rfl) ?_
                              refine n_iadd F dX1_copy_205 ?_
                              refine lv_aload_n F.x F.b dX1_copy_206 rfl (lv_at hl 1 rfl) ?_
                              refine m_geta F I 4 (by decide) q1159 dX1_copy_207 ?_
                              refine lv_bipush (v := nI (60)) F.x F.b dX1_copy_210 (by decide) ?_
                              refine lv_iload_n F.x F.b dX1_copy_212 rfl (lv_at hl 2 rfl) ?_
                              refine n_imul F dX1_copy_213 ?_
                              refine lv_iload_n F.x F.b dX1_copy_214 rfl (lv_at hl 3 rfl) ?_
                              refine n_iadd F dX1_copy_215 ?_
                              refine lv_iload F.x F.b dX1_copy_216 (lv_at hl 0 rfl) ?_
                              refine n_iadd F dX1_copy_218 ?_
                              refine m_ld (v := ((S1.2 4) ((((60 * k) + i) + r)))) F I 4 (by decide) (show (((60 * k) + i) + r) < 240 by omega) rfl dX1_copy_219 ?_
                              refine m_st F I 4 (by decide) (show (((60 * h) + j) + r) < 240 by omega) dX1_copy_220 (fun H locs (I : Iw G A s (mW G o q (S1.1, va_up S1.2 4 (upd (S1.2 4) ((((60 * h) + j) + r)) (((S1.2 4) ((((60 * k) + i) + r))))))) H locs) => ?_)
                              refine lv_iinc (v := nI ((r + 1))) (lv' := [(8, .int (nI ((r + 1)))), (9, .int (nI (r))), (0, .ref (o)), (1, .int (nI (k))), (2, .int (nI (i))), (3, .int (nI (h))), (4, .int (nI (j))), (5, .int (nI (n))), (7, .int (nI (0)))]) F.x F.b dX1_copy_221 hl (k := 8) rfl (nI_1 (r)) (by decide) rfl (fun ls hl => ?_)
                              refine lv_goto (tgt := 166) F.x F.b dX1_copy_224 (by decide) ?_
                              exact ih166 _ _ _ _ (by omega) ⟨r + 1, (S1.1, va_up S1.2 4 (upd (S1.2 4) ((((60 * h) + j) + r)) (((S1.2 4) ((((60 * k) + i) + r)))))), rfl, by omega, by exact hf, by exact hkk, by exact cp_up hcp (by omega), I, lv_sub hl [2, 3, 4, 5, 6, 7, 8, 0] rfl⟩
                          · refine lv_iconst (v := nI (1)) F.x F.b dX1_copy_156 (by decide) ?_
                            refine lv_goto (tgt := 161) F.x F.b dX1_copy_157 (by decide) ?_
                            refine lv_istore (lv' := [(7, .int (nI (1))), (6, .int (nI (1))), (0, .ref (o)), (1, .int (nI (k))), (2, .int (nI (i))), (3, .int (nI (h))), (4, .int (nI (j))), (5, .int (nI (n)))]) F.x F.b dX1_copy_161 hl (by decide) rfl (fun ls hl => ?_)
                            refine lv_iconst (v := nI (0)) F.x F.b dX1_copy_163 (by decide) ?_
                            refine lv_istore (lv' := [(8, .int (nI (0))), (7, .int (nI (1))), (6, .int (nI (1))), (0, .ref (o)), (1, .int (nI (k))), (2, .int (nI (i))), (3, .int (nI (h))), (4, .int (nI (j))), (5, .int (nI (n)))]) F.x F.b dX1_copy_164 hl (by decide) rfl (fun ls hl => ?_)
                            refine W_ind 166 (fun _ => []) (fun n_J => n_J) (fun n_J H locs ls => ∃ (r : Nat) (S1 : MS), n_J = n - r ∧ (r ≤ n) ∧ (S1.1 0 = 0) ∧ (mKeep (va_up S1.1 0 (S.1 0), va_up S1.2 4 (S.2 4)) S) ∧ (cpI k h i j (n - r) n (S.2 4) (S1.2 4)) ∧  Iw G A s (mW G o q S1) H locs ∧ lv_has ls 10 [(0, .ref (o)), (1, .int (nI (k))), (2, .int (nI (i))), (3, .int (nI (h))), (4, .int (nI (j))), (5, .int (nI (n))), (7, .int (nI (1))), (8, .int (nI (r)))]) ?_ _ ⟨0, (va_up S.1 0 (0), S.2), rfl, by omega, by rfl, by exact ⟨rfl, rfl, rfl, rfl, rfl, rfl, rfl, rfl, rfl, rfl, rfl, rfl, rfl, rfl, rfl, rfl, rfl⟩, by rw [Nat.sub_zero]; exact cpI_0, I, lv_sub hl [3, 4, 5, 6, 7, 8, 1, 0] rfl⟩
                            intro n166 H locs ls hJ ih166
                            obtain ⟨r, S1, hn166, hr, hf, hkk, hcp, I, hl⟩ := hJ
                            refine lv_iload F.x F.b dX1_copy_166 (lv_at hl 7 rfl) ?_
                            refine lv_iload F.x F.b dX1_copy_168 (lv_at hl 5 rfl) ?_
                            refine n_icmp_ge (tgt := 227) F (by omega) (by omega) dX1_copy_170 (by decide) (fun c_170 => ?_) (fun c_170 => ?_)
                            · refine lv_iload F.x F.b dX1_copy_227 (lv_at hl 5 rfl) ?_
                              exact g_iret (u := S1) F I (by exact ⟨by simp [aCopy, cOk, *], by rw [fCopy, if_pos (by simp [*]), tk, th, if_neg (by simp [*]), if_pos hse, if_pos (by simp [cOk, *])]; exact hf, by rw [cCopy, if_pos (by simp [goCopy, cOk, *]), tk, th, ti, tj, tn]; exact cp_end hC hO (by omega) (by omega) c_29 c_40 hn hjn hkk.2.2.2.2.2.1.symm hkk.2.2.2.2.2.2.1.symm (by rw [show r = n by omega, Nat.sub_self] at hcp; exact hcp), hkk⟩) dX1_copy_229 (by first | exact Nat.le_refl _ | decide) (by first | exact Nat.le_refl _ | decide)
                            · refine lv_iload F.x F.b dX1_copy_173 (lv_at hl 6 rfl) ?_
                              refine n_if_eq (tgt := 188) F (by omega) dX1_copy_175 (by decide) (fun c_175 => absurd c_175 (by decide)) (fun c_175 => ?_)
                              refine lv_iload F.x F.b dX1_copy_178 (lv_at hl 5 rfl) ?_
                              refine lv_iconst (v := nI (1)) F.x F.b dX1_copy_180 (by decide) ?_
                              refine lv_isub (x := (nI (n))) (y := 1) F.x F.b dX1_copy_181 ?_
                              refine lv_iload F.x F.b dX1_copy_182 (lv_at hl 7 rfl) ?_
                              refine lv_isub (x := ((nI (n)) - 1)) (y := (nI (r))) F.x F.b dX1_copy_184 ?_
                              refine lv_goto (tgt := 190) F.x F.b dX1_copy_185 (by decide) ?_
                              refine W.val (y := nI ((n - 1 - r))) (by rw [show (1 : Int32) = nI 1 from rfl, pk_sub (by omega), pk_sub (by omega)]) ?_
                              refine lv_istore (lv' := [(9, .int (nI ((n - 1 - r)))), (0, .ref (o)), (1, .int (nI (k))), (2, .int (nI (i))), (3, .int (nI (h))), (4, .int (nI (j))), (5, .int (nI (n))), (7, .int (nI (1))), (8, .int (nI (r)))]) F.x F.b dX1_copy_190 hl (by decide) rfl (fun ls hl => ?_)
                              refine lv_aload_n F.x F.b dX1_copy_192 rfl (lv_at hl 1 rfl) ?_
                              refine m_geta F I 4 (by decide) q1159 dX1_copy_193 ?_
                              refine lv_bipush (v := nI (60)) F.x F.b dX1_copy_196 (by decide) ?_
                              refine lv_iload_n F.x F.b dX1_copy_198 rfl (lv_at hl 4 rfl) ?_
                              refine n_imul F dX1_copy_199 ?_
                              refine lv_iload F.x F.b dX1_copy_200 (lv_at hl 5 rfl) ?_
                              refine n_iadd F dX1_copy_202 ?_
                              refine lv_iload F.x F.b dX1_copy_203 (lv_at hl 0 rfl) ?_
                              refine n_iadd F dX1_copy_205 ?_
                              refine lv_aload_n F.x F.b dX1_copy_206 rfl (lv_at hl 1 rfl) ?_
                              refine m_geta F I 4 (by decide) q1159 dX1_copy_207 ?_
                              refine lv_bipush (v := nI (60)) F.x F.b dX1_copy_210 (by decide) ?_
                              refine lv_iload_n F.x F.b dX1_copy_212 rfl (lv_at hl 2 rfl) ?_
                              refine n_imul F dX1_copy_213 ?_
                              refine lv_iload_n F.x F.b dX1_copy_214 rfl (lv_at hl 3 rfl) ?_
                              refine n_iadd F dX1_copy_215 ?_
                              refine lv_iload F.x F.b dX1_copy_216 (lv_at hl 0 rfl) ?_
                              refine n_iadd F dX1_copy_218 ?_
                              refine m_ld (v := ((S1.2 4) ((((60 * k) + i) + (n - 1 - r))))) F I 4 (by decide) (show (((60 * k) + i) + (n - 1 - r)) < 240 by omega) rfl dX1_copy_219 ?_
                              refine m_st F I 4 (by decide) (show (((60 * h) + j) + (n - 1 - r)) < 240 by omega) dX1_copy_220 (fun H locs (I : Iw G A s (mW G o q (S1.1, va_up S1.2 4 (upd (S1.2 4) ((((60 * h) + j) + (n - 1 - r))) (((S1.2 4) ((((60 * k) + i) + (n - 1 - r)))))))) H locs) => ?_)
                              refine lv_iinc (v := nI ((r + 1))) (lv' := [(8, .int (nI ((r + 1)))), (9, .int (nI ((n - 1 - r)))), (0, .ref (o)), (1, .int (nI (k))), (2, .int (nI (i))), (3, .int (nI (h))), (4, .int (nI (j))), (5, .int (nI (n))), (7, .int (nI (1)))]) F.x F.b dX1_copy_221 hl (k := 8) rfl (nI_1 (r)) (by decide) rfl (fun ls hl => ?_)
                              refine lv_goto (tgt := 166) F.x F.b dX1_copy_224 (by decide) ?_
                              exact ih166 _ _ _ _ (by omega) ⟨r + 1, (S1.1, va_up S1.2 4 (upd (S1.2 4) ((((60 * h) + j) + (n - 1 - r))) (((S1.2 4) ((((60 * k) + i) + (n - 1 - r))))))), rfl, by omega, by exact hf, by exact hkk, by exact cp_dn hcp (by omega) (by omega), I, lv_sub hl [2, 3, 4, 5, 6, 7, 8, 0] rfl⟩
                        · refine lv_aload_n F.x F.b dX1_copy_144 rfl (lv_at hl 1 rfl) ?_
                          refine lv_iconst (v := nI (3)) F.x F.b dX1_copy_145 (by decide) ?_
                          refine g_calli I (g_runV (n := 1) (ci := 0) (q0 := 0) (As := [.int (nI (3))]) (rest := []) F I (mt_fails l G o q ((va_up S.1 0 (0), S.2)) (3)   _) q1260 q1262 qs27 q56 q1263 hd_mt_fails ⟨Nat.le_of_ble_eq_true rfl, Nat.le_of_ble_eq_true rfl⟩ rfl rfl rfl rfl hl.1 rfl (lv_room (Nat.le_of_ble_eq_true rfl)) dX1_copy_146 ⟨by first | exact Nat.le_refl _ | decide, by first | exact Nat.le_refl _ | decide⟩) (fun r u_ H locs hp I => ?_)
                          obtain ⟨rfl, rfl⟩ := hp
                          exact g_iret (u := (va_up (va_up S.1 0 (0)) 0 (3), S.2)) F I (by exact ⟨by simp [aCopy, cOk, *], by simp [fCopy, cOk, *, va_up], by rw [cCopy, if_neg (by simp [goCopy, cOk, *])]; exact hC, by exact ⟨rfl, rfl, rfl, rfl, rfl, rfl, rfl, rfl, rfl, rfl, rfl, rfl, rfl, rfl, rfl, rfl, rfl⟩⟩) dX1_copy_149 (by first | exact Nat.le_refl _ | decide) (by first | exact Nat.le_refl _ | decide)
          · have hse : ¬ L 2 k = L 2 h := fun z9 => c_61 (by rw [z9])
            refine lv_aload_n F.x F.b dX1_copy_64 rfl (lv_at hl 0 rfl) ?_
            refine lv_iconst (v := nI (2)) F.x F.b dX1_copy_65 (by decide) ?_
            refine g_calli I (g_runV (n := 1) (ci := 0) (q0 := 0) (As := [.int (nI (2))]) (rest := []) F I (mt_fails l G o q ((va_up S.1 0 (0), S.2)) (2)   _) q1260 q1262 qs27 q56 q1263 hd_mt_fails ⟨Nat.le_of_ble_eq_true rfl, Nat.le_of_ble_eq_true rfl⟩ rfl rfl rfl rfl hl.1 rfl (lv_room (Nat.le_of_ble_eq_true rfl)) dX1_copy_66 ⟨by first | exact Nat.le_refl _ | decide, by first | exact Nat.le_refl _ | decide⟩) (fun r u_ H locs hp I => ?_)
            obtain ⟨rfl, rfl⟩ := hp
            exact g_iret (u := (va_up (va_up S.1 0 (0)) 0 (2), S.2)) F I (by exact ⟨by simp [aCopy, cOk, *], by simp [fCopy, cOk, *, va_up], by rw [cCopy, if_neg (by simp [goCopy, cOk, *])]; exact hC, by exact ⟨rfl, rfl, rfl, rfl, rfl, rfl, rfl, rfl, rfl, rfl, rfl, rfl, rfl, rfl, rfl, rfl, rfl⟩⟩) dX1_copy_69 (by first | exact Nat.le_refl _ | decide) (by first | exact Nat.le_refl _ | decide)
        · refine lv_aload_n F.x F.b dX1_copy_43 rfl (lv_at hl 0 rfl) ?_
          refine lv_iconst (v := nI (1)) F.x F.b dX1_copy_44 (by decide) ?_
          refine g_calli I (g_runV (n := 1) (ci := 0) (q0 := 0) (As := [.int (nI (1))]) (rest := []) F I (mt_fails l G o q ((va_up S.1 0 (0), S.2)) (1)   _) q1260 q1262 qs27 q56 q1263 hd_mt_fails ⟨Nat.le_of_ble_eq_true rfl, Nat.le_of_ble_eq_true rfl⟩ rfl rfl rfl rfl hl.1 rfl (lv_room (Nat.le_of_ble_eq_true rfl)) dX1_copy_45 ⟨by first | exact Nat.le_refl _ | decide, by first | exact Nat.le_refl _ | decide⟩) (fun r u_ H locs hp I => ?_)
          obtain ⟨rfl, rfl⟩ := hp
          exact g_iret (u := (va_up (va_up S.1 0 (0)) 0 (1), S.2)) F I (by exact ⟨by simp [aCopy, cOk, *], by simp [fCopy, cOk, *, va_up], by rw [cCopy, if_neg (by simp [goCopy, cOk, *])]; exact hC, by exact ⟨rfl, rfl, rfl, rfl, rfl, rfl, rfl, rfl, rfl, rfl, rfl, rfl, rfl, rfl, rfl, rfl, rfl⟩⟩) dX1_copy_48 (by first | exact Nat.le_refl _ | decide) (by first | exact Nat.le_refl _ | decide)
    · refine lv_iconst (v := (-1)) F.x F.b dX1_copy_19 (by decide) ?_
      exact g_iret (u := (va_up S.1 0 (0), S.2)) F I (by exact ⟨by simp [aCopy, cOk, *], by simp [fCopy, cOk, *, va_up], by rw [cCopy, if_neg (by simp [goCopy, cOk, *])]; exact hC, by exact ⟨rfl, rfl, rfl, rfl, rfl, rfl, rfl, rfl, rfl, rfl, rfl, rfl, rfl, rfl, rfl, rfl, rfl⟩⟩) dX1_copy_20 (by first | exact Nat.le_refl _ | decide) (by first | exact Nat.le_refl _ | decide)
