/-! THE REFERENCE: land -/
set_option maxRecDepth 100000
theorem rdS_c {S : MS} {f g : Nat → Int32} {n : Nat} (h : ∀ u, u < n → f u = g u) (hn : 27 ≤ n) (k : rdS S f 8) : rdS S g 8 := fun x hx => by rw [← dv_congr (h (1 + x) (by omega))]; exact k x hx
theorem sv_c {f g : Nat → Int32} {n v : Nat} (h : ∀ u, u < n → f u = g u) (hn : 27 ≤ n) (hv : v < 3) : sv f v = sv g v := by
  unfold sv; rw [dv_congr (h _ (by omega)), dv_congr (h (11 + 4 * v) (by omega)), dv_congr (h (12 + 4 * v) (by omega))]
theorem rdG_c {S : MS} {f g : Nat → Int32} {n : Nat} (h : ∀ u, u < n → f u = g u) (hn : 27 ≤ n) (k : rdG S f 3) : rdG S g 3 := fun x hx => by rw [← sv_c h hn hx]; exact k x hx
theorem rdP_c {S : MS} {f g : Nat → Int32} {n np : Nat} (h : ∀ u, u < n → f u = g u) (hn : n = 21 + 6 * np) (k : rdP S f np) : rdP S g np := fun x hx => by
  have e0 : kdv f (22 + 6 * x) = kdv g (22 + 6 * x) := by unfold kdv; rw [h _ (by omega)]
  rw [← e0, ← dv_congr (h (23 + 6 * x) (by omega)), ← dv_congr (h (24 + 6 * x) (by omega)), ← dv_congr (h (25 + 6 * x) (by omega)), ← dv_congr (h (26 + 6 * x) (by omega))]; exact k x hx
theorem okL_t {f : Nat → Int32} {n : Nat} (h : isEnd f n n) (k : okLen n) : okL f n = true := by unfold okL; rw [fE_end h]; simp; exact k
theorem okL_f {f : Nat → Int32} {n t : Nat} (h : isEnd f n t) (k : ¬ (t = n ∧ okLen n)) : okL f n = false := by
  unfold okL; rw [fE_end h]
  rw [Bool.and_eq_false_iff, decide_eq_false_iff_not, decide_eq_false_iff_not]
  by_cases e : t = n
  · right; exact fun z => k ⟨e, z⟩
  · left; exact e

theorem mLd_k0 {S S' : MS} {L : LD} {ms : Nat} {a b : Int32} (h : mLd S L ms) (k : mKeep (va_up (va_up S.1 0 a) 14 b, S.2) S') : mLd S' L ms := mLd_keep (S := (va_up (va_up S.1 0 a) 14 b, S.2)) h k
theorem mRd_k0 {S S' : MS} {L : LD} {a b : Int32} (h : mRd S L) (k : mKeep (va_up (va_up S.1 0 a) 14 b, S.2) S') : mRd S' L := mRd_keep (S := (va_up (va_up S.1 0 a) 14 b, S.2)) h k
theorem hd_mt_land : yX1_land.cls = RX1 ∧ yX1_land.cls ≠ "java/lang/invoke/MethodHandle" ∧ yX1_land.cls ≠ "java/lang/invoke/VarHandle" ∧ (parseMethodDescriptor yX1_land.desc).map (fun d => d.parameters.length) = some 4 := by decide +kernel
set_option maxHeartbeats 4000000 in
theorem mt_land (l : Launch) (G : gG) (o : Nat) (q : Nat → Nat) (S : MS) (x : Int32) (v : Int32) (y : Int32) (z : Int32) (L : LD) (C : Nat → Nat → Int32) (hL : LOk L) (hS : mLd S L 99) (hRd : mRd S L) (hO : SOk L) (hC : mSh S L C) : gMi l yX1_land cX1_land 7 (some .int) ({ frames := 4, cells := 0, slots := 0, locals := 91 } : Room) G [.ref o, .int (x), .int (v), .int (y), .int (z)] (mW G o q S) (fun S' => mW G o q S') (fun ρ S' => aLand L C x v y z = ρ ∧ S'.1 0 = fLand L x v y z ∧ mLd S' (lLand L C x v y z) 99 ∧ mRd S' (lLand L C x v y z) ∧ S'.1 1 = S.1 1 ∧ S'.2 2 = S.2 2 ∧ S'.2 3 = S.2 3 ∧ S'.2 4 = S.2 4) := by
  refine gMi_of (by decide) (Nat.le_of_ble_eq_true rfl) ?_
  intro p e s m below meth c ls A F I hl
  have hl : lv_has ls 7 [(0, .ref (o)), (1, .int (x)), (2, .int (v)), (3, .int (y)), (4, .int (z))] := hl
  refine lv_aload_n F.x F.b dX1_land_0 rfl (lv_at hl 0 rfl) ?_
  refine lv_iconst (v := nI (0)) F.x F.b dX1_land_1 (by decide) ?_
  refine m_put F I 0 (by decide) q1155 dX1_land_2 (fun H locs (I : Iw G A s (mW G o q (va_up S.1 0 (0), S.2)) H locs) => ?_)
  refine lv_iload_n F.x F.b dX1_land_5 rfl (lv_at hl 1 rfl) ?_
  refine g_calli I (g_runS (n := 1) (As := [.int (x)]) (rest := []) F I (mt_isSheet l G _ (x)   _) q1247 q1248 q56 q1249 hd_mt_isSheet.2 ⟨Nat.le_of_ble_eq_true rfl, Nat.le_of_ble_eq_true rfl⟩ rfl rfl hl.1 rfl (lv_room (Nat.le_of_ble_eq_true rfl)) dX1_land_6 ⟨by first | exact Nat.le_refl _ | decide, by first | exact Nat.le_refl _ | decide⟩) (fun r u_ H locs hp I => ?_)
  obtain rfl := hp
  refine z_ne (tgt := 14) F dX1_land_9 (by decide) (fun c_9 => ?_) (fun c_9 => ?_)
  · obtain ⟨k, hk, rfl⟩ := wi_n (m := 3) (by decide) c_9
    have tk : (nI k).toNatClampNeg = k := nI_clamp (by omega)
    refine lv_iload_n F.x F.b dX1_land_14 rfl (lv_at hl 2 rfl) ?_
    refine g_calli I (g_runS (n := 1) (As := [.int (v)]) (rest := []) F I (mt_isSort l G _ (v)   _) q1253 q1254 q56 q1255 hd_mt_isSort.2 ⟨Nat.le_of_ble_eq_true rfl, Nat.le_of_ble_eq_true rfl⟩ rfl rfl hl.1 rfl (lv_room (Nat.le_of_ble_eq_true rfl)) dX1_land_15 ⟨by first | exact Nat.le_refl _ | decide, by first | exact Nat.le_refl _ | decide⟩) (fun r u_ H locs hp I => ?_)
    obtain rfl := hp
    refine z_ne (tgt := 24) F dX1_land_18 (by decide) (fun c_18 => ?_) (fun c_18 => ?_)
    · obtain ⟨sr, hsr, rfl⟩ := wi_n (m := 2) (by decide) c_18
      have tsr : (nI sr).toNatClampNeg = sr := nI_clamp (by omega)
      refine lv_aload_n F.x F.b dX1_land_24 rfl (lv_at hl 0 rfl) ?_
      refine lv_iload_n F.x F.b dX1_land_25 rfl (lv_at hl 1 rfl) ?_
      refine lv_iload_n F.x F.b dX1_land_26 rfl (lv_at hl 2 rfl) ?_
      refine lv_iload_n F.x F.b dX1_land_27 rfl (lv_at hl 3 rfl) ?_
      refine lv_iload F.x F.b dX1_land_28 (lv_at hl 4 rfl) ?_
      refine g_calli I (g_runV (n := 4) (ci := 0) (q0 := 0) (As := [.int (nI (k)), .int (nI (sr)), .int (y), .int (z)]) (rest := []) F I (mt_against l G o q ((va_up S.1 0 (0), S.2)) (k) ((nI (sr))) (y) (z) L C (by exact hO) (by exact hC) (by omega) _) q1256 q1258 qs26 q56 q1259 hd_mt_against ⟨Nat.le_of_ble_eq_true rfl, Nat.le_of_ble_eq_true rfl⟩ rfl rfl rfl rfl hl.1 rfl (lv_room (Nat.le_of_ble_eq_true rfl)) dX1_land_30 ⟨by first | exact Nat.le_refl _ | decide, by first | exact Nat.le_refl _ | decide⟩) (fun r u_ H locs hp I => ?_)
      obtain ⟨rfl, rfl⟩ := hp
      refine lv_istore (lv' := [(5, .int (agn L k ((nI (sr))) y z)), (0, .ref (o)), (1, .int (nI (k))), (2, .int (nI (sr))), (3, .int (y)), (4, .int (z))]) F.x F.b dX1_land_33 hl (by decide) rfl (fun ls hl => ?_)
      refine lv_iload F.x F.b dX1_land_35 (lv_at hl 0 rfl) ?_
      refine lv_if_eq (x := agn L k ((nI (sr))) y z) (tgt := 47) F.x F.b dX1_land_37 (by decide) (fun c_37 => ?_) (fun c_37 => ?_)
      · obtain ⟨hs2, hss, i, n, rfl, rfl, hin⟩ := agn_0 c_37 (hO k (by omega)).2
        have hO3 := (hO k (by omega)).2 hs2
        have ti : (nI i).toNatClampNeg = i := nI_clamp (by omega)
        have tn : (nI n).toNatClampNeg = n := nI_clamp (by omega)
        have hcg : ∀ u, u < n → fT S (60 * k + i) u = tx C k i u := fun u hu => by show S.2 4 (60 * k + i + u) = C k (i + u); rw [Nat.add_assoc]; exact (hC.2 k (by omega) hs2).2 (i + u) (by omega)
        refine lv_bipush (v := nI (60)) F.x F.b dX1_land_47 (by decide) ?_
        refine lv_iload_n F.x F.b dX1_land_49 rfl (lv_at hl 2 rfl) ?_
        refine n_imul F dX1_land_50 ?_
        refine lv_iload_n F.x F.b dX1_land_51 rfl (lv_at hl 4 rfl) ?_
        refine n_iadd F dX1_land_52 ?_
        refine lv_istore (lv' := [(6, .int (nI (((60 * k) + i)))), (5, .int (agn L k ((nI (sr))) (nI (i)) (nI (n)))), (0, .ref (o)), (1, .int (nI (k))), (2, .int (nI (sr))), (3, .int (nI (i))), (4, .int (nI (n)))]) F.x F.b dX1_land_53 hl (by decide) rfl (fun ls hl => ?_)
        refine lv_aload_n F.x F.b dX1_land_55 rfl (lv_at hl 2 rfl) ?_
        refine lv_iload F.x F.b dX1_land_56 (lv_at hl 0 rfl) ?_
        refine m_put F I 14 (by decide) q1169 dX1_land_58 (fun H locs (I : Iw G A s (mW G o q (va_up (va_up S.1 0 (0)) 14 ((nI (((60 * k) + i)))), S.2)) H locs) => ?_)
        refine lv_aload_n F.x F.b dX1_land_61 rfl (lv_at hl 2 rfl) ?_
        refine lv_iload F.x F.b dX1_land_62 (lv_at hl 0 rfl) ?_
        refine lv_iload F.x F.b dX1_land_64 (lv_at hl 6 rfl) ?_
        refine n_iadd F dX1_land_66 ?_
        refine g_calli I (g_runV (n := 1) (ci := 0) (q0 := 0) (As := [.int (nI ((((60 * k) + i) + n)))]) (rest := []) F I (mt_readLand l G o q ((va_up (va_up S.1 0 (0)) 14 ((nI (((60 * k) + i)))), S.2)) ((((60 * k) + i) + n)) (60 * k + i) n (by omega) (by omega) (by exact congrArg nI (by omega)) _) q1264 q1266 qs28 q56 q1267 hd_mt_readLand ⟨Nat.le_of_ble_eq_true rfl, Nat.le_of_ble_eq_true rfl⟩ rfl rfl rfl rfl hl.1 rfl (lv_room (Nat.le_of_ble_eq_true rfl)) dX1_land_67 ⟨by first | exact Nat.le_refl _ | decide, by first | exact Nat.le_refl _ | decide⟩) (fun r Z67 H locs hp I => ?_)
        rcases hp with ⟨np, hol, hie, hnn, hp1, hp6, rfl, hr15, hrS, hrG, hrP, hkl⟩ | ⟨t, hie, ht60, hno, rfl, ha14, hkl⟩
        · skip
          have hie2 := isEnd_congr hcg hie
          refine z_ne (tgt := 84) F dX1_land_70 (by decide) (fun c_70 => ?_) (fun c_70 => absurd c_70 (by decide))
          refine lv_aload_n F.x F.b dX1_land_84 rfl (lv_at hl 2 rfl) ?_
          refine g_callv I (g_runV (n := 0) (ci := 0) (q0 := 0) (As := []) (rest := []) F I (mt_takeLand l G o q (Z67)  L (tx C k i) np (by exact hkl.2.2.2.1.trans hS.2.1) (by exact hr15) (by exact hp6) (by exact rdS_c hcg hol.1 hrS) (by exact rdG_c hcg hol.1 hrG) (by exact rdP_c hcg hnn hrP) _) q1284 q1286 qs33 q56 q1287 hd_mt_takeLand ⟨Nat.le_of_ble_eq_true rfl, Nat.le_of_ble_eq_true rfl⟩ rfl rfl rfl rfl hl.1 rfl (lv_room (Nat.le_of_ble_eq_true rfl)) dX1_land_85 ⟨by first | exact Nat.le_refl _ | decide, by first | exact Nat.le_refl _ | decide⟩) (fun Z85 H locs hp I => ?_)
          have hq85 := hp
          refine lv_aload_n F.x F.b dX1_land_88 rfl (lv_at hl 2 rfl) ?_
          refine m_get (v := (Z85.1 5)) F I 5 (by decide) rfl q1160 dX1_land_89 ?_
          refine W.val (y := nI (np)) (by exact hq85.1.1) ?_
          exact g_iret (u := Z85) F I (by exact ⟨by rw [aLand, if_pos c_9, if_pos c_18, tk, ti, tn, if_pos c_37, if_pos (okL_t hie2 hol), hnn, show (21 + 6 * np - 21) / 6 = np by omega], by rw [fLand, if_pos (by simp [*]), tk, c_37]; exact hq85.2.2.1.trans hkl.1, by rw [lLand, if_pos (by rw [gLand, tk, ti, tn, c_9, c_18, decide_eq_true c_37, okL_t hie2 hol]; rfl), tk, ti, tn, hnn, show (21 + 6 * np - 21) / 6 = np by omega]; exact hq85.1, by rw [lLand, if_pos (by rw [gLand, tk, ti, tn, c_9, c_18, decide_eq_true c_37, okL_t hie2 hol]; rfl), tk, ti, tn, hnn, show (21 + 6 * np - 21) / 6 = np by omega]; exact hq85.2.1, hq85.2.2.2.1.trans hkl.2.1, hq85.2.2.2.2.2.2.1.trans hkl.2.2.2.2.2.1, hq85.2.2.2.2.2.2.2.1.trans hkl.2.2.2.2.2.2.1, hq85.2.2.2.2.2.2.2.2.1.trans hkl.2.2.2.2.2.2.2.1⟩) dX1_land_92 (by first | exact Nat.le_refl _ | decide) (by first | exact Nat.le_refl _ | decide)
        · skip
          have hie2 := isEnd_congr hcg hie
          refine z_ne (tgt := 84) F dX1_land_70 (by decide) (fun c_70 => absurd c_70 (by decide)) (fun c_70 => ?_)
          refine lv_bipush (v := (-100)) F.x F.b dX1_land_73 (by decide) ?_
          refine lv_aload_n F.x F.b dX1_land_75 rfl (lv_at hl 2 rfl) ?_
          refine m_get (v := (Z67.1 14)) F I 14 (by decide) rfl q1169 dX1_land_76 ?_
          refine W.val (y := nI (60 * k + i + t)) (by exact ha14) ?_
          refine lv_iload F.x F.b dX1_land_79 (lv_at hl 0 rfl) ?_
          refine lv_isub (x := (nI (60 * k + i + t))) (y := (nI (((60 * k) + i)))) F.x F.b dX1_land_81 ?_
          refine W.val (y := nI (t)) (by rw [pk_sub (by omega), show 60 * k + i + t - (60 * k + i) = t by omega]) ?_
          refine lv_isub (x := (-100)) (y := (nI (t))) F.x F.b dX1_land_82 ?_
          exact g_iret (u := Z67) F I (by exact ⟨by rw [aLand, if_pos c_9, if_pos c_18, tk, ti, tn, if_pos c_37, if_neg (by rw [okL_f hie2 hno]; decide), fE_end hie2], by rw [fLand, if_pos (by simp [*]), tk, c_37]; exact hkl.1, by rw [lLand, if_neg (by rw [tk, ti, tn, okL_f hie2 hno]; simp)]; exact mLd_k0 hS hkl, by rw [lLand, if_neg (by rw [tk, ti, tn, okL_f hie2 hno]; simp)]; exact mRd_k0 hRd hkl, hkl.2.1, hkl.2.2.2.2.2.1, hkl.2.2.2.2.2.2.1, hkl.2.2.2.2.2.2.2.1⟩) dX1_land_83 (by first | exact Nat.le_refl _ | decide) (by first | exact Nat.le_refl _ | decide)
      · refine lv_aload_n F.x F.b dX1_land_40 rfl (lv_at hl 1 rfl) ?_
        refine lv_iload F.x F.b dX1_land_41 (lv_at hl 0 rfl) ?_
        refine g_calli I (g_runV (n := 1) (ci := 0) (q0 := 0) (As := [.int (agn L k ((nI (sr))) y z)]) (rest := []) F I (mt_fails l G o q ((va_up S.1 0 (0), S.2)) (agn L k ((nI (sr))) y z)   _) q1260 q1262 qs27 q56 q1263 hd_mt_fails ⟨Nat.le_of_ble_eq_true rfl, Nat.le_of_ble_eq_true rfl⟩ rfl rfl rfl rfl hl.1 rfl (lv_room (Nat.le_of_ble_eq_true rfl)) dX1_land_43 ⟨by first | exact Nat.le_refl _ | decide, by first | exact Nat.le_refl _ | decide⟩) (fun r u_ H locs hp I => ?_)
        obtain ⟨rfl, rfl⟩ := hp
        exact g_iret (u := (va_up (va_up S.1 0 (0)) 0 (agn L k ((nI (sr))) y z), S.2)) F I (by exact ⟨by simp [aLand, *], by rw [fLand, if_pos (by simp [*]), tk]; rfl, by rw [lLand, if_neg (by simp [gLand, *])]; exact hS, by rw [lLand, if_neg (by simp [gLand, *])]; exact hRd, rfl, rfl, rfl, rfl⟩) dX1_land_46 (by first | exact Nat.le_refl _ | decide) (by first | exact Nat.le_refl _ | decide)
    · refine lv_bipush (v := (-2)) F.x F.b dX1_land_21 (by decide) ?_
      exact g_iret (u := (va_up S.1 0 (0), S.2)) F I (by exact ⟨by simp [aLand, *], by simp [fLand, *, va_up], by rw [lLand, if_neg (by simp [gLand, *])]; exact hS, by rw [lLand, if_neg (by simp [gLand, *])]; exact hRd, rfl, rfl, rfl, rfl⟩) dX1_land_23 (by first | exact Nat.le_refl _ | decide) (by first | exact Nat.le_refl _ | decide)
  · refine lv_iconst (v := (-1)) F.x F.b dX1_land_12 (by decide) ?_
    exact g_iret (u := (va_up S.1 0 (0), S.2)) F I (by exact ⟨by simp [aLand, *], by simp [fLand, *, va_up], by rw [lLand, if_neg (by simp [gLand, *])]; exact hS, by rw [lLand, if_neg (by simp [gLand, *])]; exact hRd, rfl, rfl, rfl, rfl⟩) dX1_land_13 (by first | exact Nat.le_refl _ | decide) (by first | exact Nat.le_refl _ | decide)
