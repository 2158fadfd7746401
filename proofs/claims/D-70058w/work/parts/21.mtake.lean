/-! PLAIN LAW, 8, and the reference: the land that is taken -/
set_option maxRecDepth 100000
def lTake (L : LD) (f : Nat → Int32) (np : Nat) : LD := fun k => if k = 5 then (fun _ => np) else if k = 6 then (fun d => dv f (1 + d)) else if k = 7 then sv f else if k = 8 then (fun p => kdv f (22 + 6 * p)) else if k = 9 then (fun p => dv f (23 + 6 * p)) else if k = 10 then (fun p => dv f (24 + 6 * p)) else if k = 11 then (fun p => dv f (25 + 6 * p)) else if k = 12 then (fun p => dv f (26 + 6 * p)) else if k = 26 then (fun _ => 0) else L k
def stpB (f : Nat → Int32) (n t : Nat) : Bool := decide (t < n) && (decide (t < 57) && chk f t)
theorem stpB_iff {f : Nat → Int32} {n t : Nat} : stpB f n t = true ↔ stp f n t := by unfold stpB stp; simp
def fEg (f : Nat → Int32) (n : Nat) : Nat → Nat → Nat
  | 0, t => t
  | k + 1, t => if stpB f n t then fEg f n k (t + 1) else t
/-- the first place of a text that isn't right -/
def fE (f : Nat → Int32) (n : Nat) : Nat := fEg f n 58 0
theorem fEg_end {f : Nat → Int32} {n t : Nat} (h : isEnd f n t) : ∀ k u, u ≤ t → t ≤ u + k → fEg f n k u = t
  | 0, u, h1, h2 => by show u = t; omega
  | k + 1, u, h1, h2 => by
    unfold fEg
    rcases Nat.lt_or_ge u t with h3 | h3
    · rw [if_pos (stpB_iff.mpr (h.1 u h3))]; exact fEg_end h k (u + 1) h3 (by omega)
    · rw [show u = t by omega, if_neg (fun z => h.2 (stpB_iff.mp z))]
theorem isEnd_le {f : Nat → Int32} {n t : Nat} (h : isEnd f n t) : t ≤ 57 := by
  rcases Nat.lt_or_ge 57 t with a | a
  · exact absurd (h.1 57 a).2.1 (Nat.lt_irrefl _)
  · exact a
theorem fE_end {f : Nat → Int32} {n t : Nat} (h : isEnd f n t) : fE f n = t := fEg_end h 58 0 (Nat.zero_le _) (by have := isEnd_le h; omega)
theorem chk_congr {f g : Nat → Int32} {n t : Nat} (h : ∀ u, u < n → f u = g u) (ht : t < n) : chk f t = chk g t := by
  unfold chk
  rw [h t ht, h 0 (by omega), h (t - 1) (by omega), h (t - 2) (by omega)]
theorem stp_congr {f g : Nat → Int32} {n t : Nat} (h : ∀ u, u < n → f u = g u) : stp f n t ↔ stp g n t := by
  unfold stp
  constructor
  · intro a; exact ⟨a.1, a.2.1, by rw [← chk_congr h a.1]; exact a.2.2⟩
  · intro a; exact ⟨a.1, a.2.1, by rw [chk_congr h a.1]; exact a.2.2⟩
theorem isEnd_congr {f g : Nat → Int32} {n t : Nat} (h : ∀ u, u < n → f u = g u) (k : isEnd f n t) : isEnd g n t := ⟨fun u hu => (stp_congr h).mp (k.1 u hu), fun z => k.2 ((stp_congr h).mpr z)⟩
theorem dv_congr {f g : Nat → Int32} {t : Nat} (h : f t = g t) : dv f t = dv g t := by unfold dv; rw [h]
def okL (f : Nat → Int32) (n : Nat) : Bool := decide (fE f n = n) && decide (27 ≤ n ∧ n ≤ 57 ∧ (n - 21) % 6 = 0)
theorem agn_0 {L : LD} {k : Nat} {s i n : Int32} (h : agn L k s i n = 0) (hb : L 2 k ≠ 99 → L 3 k ≤ 60) : L 2 k ≠ 99 ∧ nI (L 2 k) = s ∧ ∃ a b, i = nI a ∧ n = nI b ∧ a + b ≤ L 3 k := by
  unfold agn at h
  split at h
  · exact absurd h (by decide)
  · rename_i h1
    split at h
    · rename_i h2
      split at h
      · exact absurd h (by decide)
      · rename_i h3
        split at h
        · exact absurd h (by decide)
        · rename_i h4
          simp only [not_or, Classical.not_not] at h4
          have h60 := hb h1
          obtain ⟨a, ha, rfl⟩ := le_n2 h4.1 h4.2.1 (by omega)
          obtain ⟨b, hb, rfl⟩ := sub_n2 (m := L 3 k) (i := a) h3 (Int32.not_lt.mpr h4.2.2) ha (by omega)
          exact ⟨h1, h2, a, b, rfl, rfl, hb⟩
    · exact absurd h (by decide)
/-- a text of n signs: cells of sheet k from i on -/
def tx (C : Nat → Nat → Int32) (k i : Nat) : Nat → Int32 := fun u => C k (i + u)
def gLand (L : LD) (x v y z : Int32) : Bool := mWi x 0 3 && (mWi v 0 2 && decide (agn L x.toNatClampNeg v y z = 0))
def aLand (L : LD) (C : Nat → Nat → Int32) (x v y z : Int32) : Int32 := if mWi x 0 3 then (if mWi v 0 2 then (if agn L x.toNatClampNeg v y z = 0 then (if okL (tx C x.toNatClampNeg y.toNatClampNeg) z.toNatClampNeg then nI ((z.toNatClampNeg - 21) / 6) else -100 - nI (fE (tx C x.toNatClampNeg y.toNatClampNeg) z.toNatClampNeg)) else -10 - agn L x.toNatClampNeg v y z) else -2) else -1
def fLand (L : LD) (x v y z : Int32) : Int32 := if mWi x 0 3 && mWi v 0 2 then agn L x.toNatClampNeg v y z else 0
def lLand (L : LD) (C : Nat → Nat → Int32) (x v y z : Int32) : LD := if gLand L x v y z && okL (tx C x.toNatClampNeg y.toNatClampNeg) z.toNatClampNeg then lTake L (tx C x.toNatClampNeg y.toNatClampNeg) ((z.toNatClampNeg - 21) / 6) else L
/-- what is kept as a land is taken -/
def tkK (S S1 : MS) : Prop := S1.1 0 = S.1 0 ∧ S1.1 1 = S.1 1 ∧ S1.1 13 = S.1 13 ∧ S1.1 15 = S.1 15 ∧ S1.2 2 = S.2 2 ∧ S1.2 3 = S.2 3 ∧ S1.2 4 = S.2 4 ∧ S1.2 16 = S.2 16 ∧ S1.2 17 = S.2 17 ∧ S1.2 18 = S.2 18
theorem tkK.tr {S S1 S2 : MS} (h : tkK S S1) (k : tkK S1 S2) : tkK S S2 := by
  obtain ⟨a1, a2, a3, a4, a5, a6, a7, a8, a9, a10⟩ := h
  obtain ⟨b1, b2, b3, b4, b5, b6, b7, b8, b9, b10⟩ := k
  exact ⟨b1.trans a1, b2.trans a2, b3.trans a3, b4.trans a4, b5.trans a5, b6.trans a6, b7.trans a7, b8.trans a8, b9.trans a9, b10.trans a10⟩
def tkS (S : MS) (f : Nat → Int32) (d : Nat) : Prop := ∀ x, x < d → S.2 6 x = nI (dv f (1 + x))
def tkG (S : MS) (f : Nat → Int32) (v : Nat) : Prop := ∀ x, x < v → S.2 7 x = nI (sv f x)
def tkP (S : MS) (f : Nat → Int32) (p : Nat) : Prop := ∀ x, x < p → S.2 8 x = nI (kdv f (22 + 6 * x)) ∧ S.2 9 x = nI (dv f (23 + 6 * x)) ∧ S.2 10 x = nI (dv f (24 + 6 * x)) ∧ S.2 11 x = nI (dv f (25 + 6 * x)) ∧ S.2 12 x = nI (dv f (26 + 6 * x))
theorem up_lt {f : Nat → Int32} {g : Nat → Int32} {d : Nat} {y : Int32} (h : ∀ x, x < d → f x = g x) (e : y = g d) : ∀ x, x < d + 1 → upd f d y x = g x := by
  intro x hx
  unfold upd
  rcases Nat.decEq x d with h1 | h1
  · rw [if_neg h1]; exact h x (by omega)
  · rw [if_pos h1, e, h1]

theorem hd_mt_takeLand : yX1_takeLand.cls = RX1 ∧ yX1_takeLand.cls ≠ "java/lang/invoke/MethodHandle" ∧ yX1_takeLand.cls ≠ "java/lang/invoke/VarHandle" ∧ (parseMethodDescriptor yX1_takeLand.desc).map (fun d => d.parameters.length) = some 0 := by decide +kernel
set_option maxHeartbeats 4000000 in
theorem mt_takeLand (l : Launch) (G : gG) (o : Nat) (q : Nat → Nat) (S : MS)  (L : LD) (f : Nat → Int32) (np : Nat) (hms : S.1 13 = -9) (hrm : S.1 15 = nI np) (hnp : np ≤ 6) (hrS : rdS S f 8) (hrG : rdG S f 3) (hrP : rdP S f np) : gMv l yX1_takeLand cX1_takeLand 2 none ({ frames := 0, cells := 0, slots := 0, locals := 0 } : Room) G [.ref o] (mW G o q S) (fun S' => mW G o q S') (fun S' => mLd S' (lTake L f np) 99 ∧ mRd S' (lTake L f np) ∧ tkK S S') := by
  refine gMv_of (by decide) (Nat.le_of_ble_eq_true rfl) ?_
  intro p e s m below meth c ls A F I hl
  have hl : lv_has ls 2 [(0, .ref (o))] := hl
  refine lv_iconst (v := nI (0)) F.x F.b dX1_takeLand_0 (by decide) ?_
  refine lv_istore_n (lv' := [(1, .int (nI (0))), (0, .ref (o))]) F.x F.b dX1_takeLand_1 rfl hl (by decide) rfl (fun ls hl => ?_)
  refine W_ind 2 (fun _ => []) (fun n_J => n_J) (fun n_J H locs ls => ∃ (d : Nat) (S1 : MS), n_J = 8 - d ∧ (d ≤ 8) ∧ (tkK S S1) ∧ (tkS S1 f d) ∧  Iw G A s (mW G o q S1) H locs ∧ lv_has ls 2 [(0, .ref (o)), (1, .int (nI (d)))]) ?_ _ ⟨0, S, rfl, by omega, by exact ⟨rfl, rfl, rfl, rfl, rfl, rfl, rfl, rfl, rfl, rfl⟩, by exact fun x hx => absurd hx (Nat.not_lt_zero _), I, lv_sub hl [1, 0] rfl⟩
  intro n2 H locs ls hJ ih2
  obtain ⟨d, S1, hn2, hd, hk1, hS, I, hl⟩ := hJ
  refine lv_iload_n F.x F.b dX1_takeLand_2 rfl (lv_at hl 1 rfl) ?_
  refine lv_bipush (v := nI (8)) F.x F.b dX1_takeLand_3 (by decide) ?_
  refine n_icmp_ge (tgt := 26) F (by omega) (by omega) dX1_takeLand_5 (by decide) (fun c_5 => ?_) (fun c_5 => ?_)
  · refine lv_iconst (v := nI (0)) F.x F.b dX1_takeLand_26 (by decide) ?_
    refine lv_istore_n (lv' := [(1, .int (nI (0))), (0, .ref (o))]) F.x F.b dX1_takeLand_27 rfl hl (by decide) rfl (fun ls hl => ?_)
    refine W_ind 28 (fun _ => []) (fun n_J => n_J) (fun n_J H locs ls => ∃ (v : Nat) (S1 : MS), n_J = 3 - v ∧ (v ≤ 3) ∧ (tkK S S1) ∧ (tkS S1 f 8) ∧ (tkG S1 f v) ∧  Iw G A s (mW G o q S1) H locs ∧ lv_has ls 2 [(0, .ref (o)), (1, .int (nI (v)))]) ?_ _ ⟨0, S1, rfl, by omega, by exact hk1, by rw [← show d = 8 by omega]; exact hS, by exact fun x hx => absurd hx (Nat.not_lt_zero _), I, lv_sub hl [1, 0] rfl⟩
    intro n28 H locs ls hJ ih28
    obtain ⟨v, S1, hn28, hv, hk1, hS, hG, I, hl⟩ := hJ
    refine lv_iload_n F.x F.b dX1_takeLand_28 rfl (lv_at hl 1 rfl) ?_
    refine lv_iconst (v := nI (3)) F.x F.b dX1_takeLand_29 (by decide) ?_
    refine n_icmp_ge (tgt := 51) F (by omega) (by omega) dX1_takeLand_30 (by decide) (fun c_30 => ?_) (fun c_30 => ?_)
    · refine lv_aload_n F.x F.b dX1_takeLand_51 rfl (lv_at hl 0 rfl) ?_
      refine lv_aload_n F.x F.b dX1_takeLand_52 rfl (lv_at hl 0 rfl) ?_
      refine m_get (v := (S1.1 15)) F I 15 (by decide) rfl q1170 dX1_takeLand_53 ?_
      refine W.val (y := nI (np)) (by exact hk1.2.2.2.1.trans hrm) ?_
      refine m_put F I 5 (by decide) q1160 dX1_takeLand_56 (fun H locs (I : Iw G A s (mW G o q (va_up S1.1 5 ((nI (np))), S1.2)) H locs) => ?_)
      refine lv_iconst (v := nI (0)) F.x F.b dX1_takeLand_59 (by decide) ?_
      refine lv_istore_n (lv' := [(1, .int (nI (0))), (0, .ref (o))]) F.x F.b dX1_takeLand_60 rfl hl (by decide) rfl (fun ls hl => ?_)
      refine W_ind 61 (fun _ => []) (fun n_J => n_J) (fun n_J H locs ls => ∃ (pp : Nat) (S1 : MS), n_J = np - pp ∧ (pp ≤ np) ∧ (tkK S S1) ∧ (S1.1 5 = nI np) ∧ (tkS S1 f 8) ∧ (tkG S1 f 3) ∧ (tkP S1 f pp) ∧  Iw G A s (mW G o q S1) H locs ∧ lv_has ls 2 [(0, .ref (o)), (1, .int (nI (pp)))]) ?_ _ ⟨0, (va_up S1.1 5 ((nI (np))), S1.2), rfl, by omega, by exact hk1.tr (by exact ⟨rfl, rfl, rfl, rfl, rfl, rfl, rfl, rfl, rfl, rfl⟩), by rfl, by exact hS, by rw [← show v = 3 by omega]; exact hG, by exact fun x hx => absurd hx (Nat.not_lt_zero _), I, lv_sub hl [1, 0] rfl⟩
      intro n61 H locs ls hJ ih61
      obtain ⟨pp, S1, hn61, hp, hk1, hn5, hS, hG, hP, I, hl⟩ := hJ
      refine lv_iload_n F.x F.b dX1_takeLand_61 rfl (lv_at hl 1 rfl) ?_
      refine lv_aload_n F.x F.b dX1_takeLand_62 rfl (lv_at hl 0 rfl) ?_
      refine m_get (v := (S1.1 5)) F I 5 (by decide) rfl q1160 dX1_takeLand_63 ?_
      refine W.val (y := nI (np)) (by exact hn5) ?_
      refine n_icmp_ge (tgt := 153) F (by omega) (by omega) dX1_takeLand_66 (by decide) (fun c_66 => ?_) (fun c_66 => ?_)
      · refine lv_aload_n F.x F.b dX1_takeLand_153 rfl (lv_at hl 0 rfl) ?_
        refine lv_iconst (v := nI (0)) F.x F.b dX1_takeLand_154 (by decide) ?_
        refine m_put F I 26 (by decide) q1181 dX1_takeLand_155 (fun H locs (I : Iw G A s (mW G o q (va_up S1.1 26 (0), S1.2)) H locs) => ?_)
        exact g_vret (u := (va_up S1.1 26 (0), S1.2)) F I (by exact ⟨⟨hn5, hk1.2.2.1.trans hms, fun x hx => hP x (by have hx : x < np := hx; omega), hS, hG⟩, ⟨rfl, fun x hx => absurd hx (Nat.not_lt_zero _)⟩, hk1⟩) dX1_takeLand_158 (by first | exact Nat.le_refl _ | decide) (by first | exact Nat.le_refl _ | decide)
      · have h18 : S1.2 18 = S.2 18 := hk1.2.2.2.2.2.2.2.2.2
        have hrp := (hrP pp (by omega)).1
        refine lv_aload_n F.x F.b dX1_takeLand_69 rfl (lv_at hl 0 rfl) ?_
        refine m_geta F I 8 (by decide) q1163 dX1_takeLand_70 ?_
        refine lv_iload_n F.x F.b dX1_takeLand_73 rfl (lv_at hl 1 rfl) ?_
        refine lv_aload_n F.x F.b dX1_takeLand_74 rfl (lv_at hl 0 rfl) ?_
        refine m_geta F I 18 (by decide) q1173 dX1_takeLand_75 ?_
        refine lv_iconst (v := nI (5)) F.x F.b dX1_takeLand_78 (by decide) ?_
        refine lv_iload_n F.x F.b dX1_takeLand_79 rfl (lv_at hl 1 rfl) ?_
        refine n_imul F dX1_takeLand_80 ?_
        refine m_ld (v := ((S1.2 18) ((5 * pp)))) F I 18 (by decide) (show (5 * pp) < 30 by omega) rfl dX1_takeLand_81 ?_
        refine m_st F I 8 (by decide) (show pp < 6 by omega) dX1_takeLand_82 (fun H locs (I : Iw G A s (mW G o q (S1.1, va_up S1.2 8 (upd (S1.2 8) (pp) (((S1.2 18) ((5 * pp))))))) H locs) => ?_)
        refine lv_aload_n F.x F.b dX1_takeLand_83 rfl (lv_at hl 0 rfl) ?_
        refine m_geta F I 9 (by decide) q1164 dX1_takeLand_84 ?_
        refine lv_iload_n F.x F.b dX1_takeLand_87 rfl (lv_at hl 1 rfl) ?_
        refine lv_aload_n F.x F.b dX1_takeLand_88 rfl (lv_at hl 0 rfl) ?_
        refine m_geta F I 18 (by decide) q1173 dX1_takeLand_89 ?_
        refine lv_iconst (v := nI (5)) F.x F.b dX1_takeLand_92 (by decide) ?_
        refine lv_iload_n F.x F.b dX1_takeLand_93 rfl (lv_at hl 1 rfl) ?_
        refine n_imul F dX1_takeLand_94 ?_
        refine lv_iconst (v := nI (1)) F.x F.b dX1_takeLand_95 (by decide) ?_
        refine n_iadd F dX1_takeLand_96 ?_
        refine m_ld (v := ((S1.2 18) (((5 * pp) + 1)))) F I 18 (by decide) (show ((5 * pp) + 1) < 30 by omega) rfl dX1_takeLand_97 ?_
        refine m_st F I 9 (by decide) (show pp < 6 by omega) dX1_takeLand_98 (fun H locs (I : Iw G A s (mW G o q (S1.1, va_up (va_up S1.2 8 (upd (S1.2 8) (pp) (((S1.2 18) ((5 * pp)))))) 9 (upd (S1.2 9) (pp) (((S1.2 18) (((5 * pp) + 1))))))) H locs) => ?_)
        refine lv_aload_n F.x F.b dX1_takeLand_99 rfl (lv_at hl 0 rfl) ?_
        refine m_geta F I 10 (by decide) q1165 dX1_takeLand_100 ?_
        refine lv_iload_n F.x F.b dX1_takeLand_103 rfl (lv_at hl 1 rfl) ?_
        refine lv_aload_n F.x F.b dX1_takeLand_104 rfl (lv_at hl 0 rfl) ?_
        refine m_geta F I 18 (by decide) q1173 dX1_takeLand_105 ?_
        refine lv_iconst (v := nI (5)) F.x F.b dX1_takeLand_108 (by decide) ?_
        refine lv_iload_n F.x F.b dX1_takeLand_109 rfl (lv_at hl 1 rfl) ?_
        refine n_imul F dX1_takeLand_110 ?_
        refine lv_iconst (v := nI (2)) F.x F.b dX1_takeLand_111 (by decide) ?_
        refine n_iadd F dX1_takeLand_112 ?_
        refine m_ld (v := ((S1.2 18) (((5 * pp) + 2)))) F I 18 (by decide) (show ((5 * pp) + 2) < 30 by omega) rfl dX1_takeLand_113 ?_
        refine m_st F I 10 (by decide) (show pp < 6 by omega) dX1_takeLand_114 (fun H locs (I : Iw G A s (mW G o q (S1.1, va_up (va_up (va_up S1.2 8 (upd (S1.2 8) (pp) (((S1.2 18) ((5 * pp)))))) 9 (upd (S1.2 9) (pp) (((S1.2 18) (((5 * pp) + 1)))))) 10 (upd (S1.2 10) (pp) (((S1.2 18) (((5 * pp) + 2))))))) H locs) => ?_)
        refine lv_aload_n F.x F.b dX1_takeLand_115 rfl (lv_at hl 0 rfl) ?_
        refine m_geta F I 11 (by decide) q1166 dX1_takeLand_116 ?_
        refine lv_iload_n F.x F.b dX1_takeLand_119 rfl (lv_at hl 1 rfl) ?_
        refine lv_aload_n F.x F.b dX1_takeLand_120 rfl (lv_at hl 0 rfl) ?_
        refine m_geta F I 18 (by decide) q1173 dX1_takeLand_121 ?_
        refine lv_iconst (v := nI (5)) F.x F.b dX1_takeLand_124 (by decide) ?_
        refine lv_iload_n F.x F.b dX1_takeLand_125 rfl (lv_at hl 1 rfl) ?_
        refine n_imul F dX1_takeLand_126 ?_
        refine lv_iconst (v := nI (3)) F.x F.b dX1_takeLand_127 (by decide) ?_
        refine n_iadd F dX1_takeLand_128 ?_
        refine m_ld (v := ((S1.2 18) (((5 * pp) + 3)))) F I 18 (by decide) (show ((5 * pp) + 3) < 30 by omega) rfl dX1_takeLand_129 ?_
        refine m_st F I 11 (by decide) (show pp < 6 by omega) dX1_takeLand_130 (fun H locs (I : Iw G A s (mW G o q (S1.1, va_up (va_up (va_up (va_up S1.2 8 (upd (S1.2 8) (pp) (((S1.2 18) ((5 * pp)))))) 9 (upd (S1.2 9) (pp) (((S1.2 18) (((5 * pp) + 1)))))) 10 (upd (S1.2 10) (pp) (((S1.2 18) (((5 * pp) + 2)))))) 11 (upd (S1.2 11) (pp) (((S1.2 18) (((5 * pp) + 3))))))) H locs) => ?_)
        refine lv_aload_n F.x F.b dX1_takeLand_131 rfl (lv_at hl 0 rfl) ?_
        refine m_geta F I 12 (by decide) q1167 dX1_takeLand_132 ?_
        refine lv_iload_n F.x F.b dX1_takeLand_135 rfl (lv_at hl 1 rfl) ?_
        refine lv_aload_n F.x F.b dX1_takeLand_136 rfl (lv_at hl 0 rfl) ?_
        refine m_geta F I 18 (by decide) q1173 dX1_takeLand_137 ?_
        refine lv_iconst (v := nI (5)) F.x F.b dX1_takeLand_140 (by decide) ?_
        refine lv_iload_n F.x F.b dX1_takeLand_141 rfl (lv_at hl 1 rfl) ?_
        refine n_imul F dX1_takeLand_142 ?_
        refine lv_iconst (v := nI (4)) F.x F.b dX1_takeLand_143 (by decide) ?_
        refine n_iadd F dX1_takeLand_144 ?_
        refine m_ld (v := ((S1.2 18) (((5 * pp) + 4)))) F I 18 (by decide) (show ((5 * pp) + 4) < 30 by omega) rfl dX1_takeLand_145 ?_
        refine m_st F I 12 (by decide) (show pp < 6 by omega) dX1_takeLand_146 (fun H locs (I : Iw G A s (mW G o q (S1.1, va_up (va_up (va_up (va_up (va_up S1.2 8 (upd (S1.2 8) (pp) (((S1.2 18) ((5 * pp)))))) 9 (upd (S1.2 9) (pp) (((S1.2 18) (((5 * pp) + 1)))))) 10 (upd (S1.2 10) (pp) (((S1.2 18) (((5 * pp) + 2)))))) 11 (upd (S1.2 11) (pp) (((S1.2 18) (((5 * pp) + 3)))))) 12 (upd (S1.2 12) (pp) (((S1.2 18) (((5 * pp) + 4))))))) H locs) => ?_)
        refine lv_iinc (v := nI ((pp + 1))) (lv' := [(1, .int (nI ((pp + 1)))), (0, .ref (o))]) F.x F.b dX1_takeLand_147 hl (k := 1) rfl (nI_1 (pp)) (by decide) rfl (fun ls hl => ?_)
        refine lv_goto (tgt := 61) F.x F.b dX1_takeLand_150 (by decide) ?_
        exact ih61 _ _ _ _ (by omega) ⟨pp + 1, (S1.1, va_up (va_up (va_up (va_up (va_up S1.2 8 (upd (S1.2 8) (pp) (((S1.2 18) ((5 * pp)))))) 9 (upd (S1.2 9) (pp) (((S1.2 18) (((5 * pp) + 1)))))) 10 (upd (S1.2 10) (pp) (((S1.2 18) (((5 * pp) + 2)))))) 11 (upd (S1.2 11) (pp) (((S1.2 18) (((5 * pp) + 3)))))) 12 (upd (S1.2 12) (pp) (((S1.2 18) (((5 * pp) + 4)))))), rfl, by omega, by exact hk1.tr (by exact ⟨rfl, rfl, rfl, rfl, rfl, rfl, rfl, rfl, rfl, rfl⟩), by exact hn5, by exact hS, by exact hG, by exact fun x hx => ⟨up_lt (g := fun x => nI (kdv f (22 + 6 * x))) (fun x hx => (hP x hx).1) (by rw [h18]; exact hrp.1) x hx, up_lt (g := fun x => nI (dv f (23 + 6 * x))) (fun x hx => (hP x hx).2.1) (by rw [h18]; exact hrp.2.1) x hx, up_lt (g := fun x => nI (dv f (24 + 6 * x))) (fun x hx => (hP x hx).2.2.1) (by rw [h18]; exact hrp.2.2.1) x hx, up_lt (g := fun x => nI (dv f (25 + 6 * x))) (fun x hx => (hP x hx).2.2.2.1) (by rw [h18]; exact hrp.2.2.2.1) x hx, up_lt (g := fun x => nI (dv f (26 + 6 * x))) (fun x hx => (hP x hx).2.2.2.2) (by rw [h18]; exact hrp.2.2.2.2) x hx⟩, I, lv_sub hl [1, 0] rfl⟩
    · refine lv_aload_n F.x F.b dX1_takeLand_33 rfl (lv_at hl 0 rfl) ?_
      refine m_geta F I 7 (by decide) q1162 dX1_takeLand_34 ?_
      refine lv_iload_n F.x F.b dX1_takeLand_37 rfl (lv_at hl 1 rfl) ?_
      refine lv_aload_n F.x F.b dX1_takeLand_38 rfl (lv_at hl 0 rfl) ?_
      refine m_geta F I 17 (by decide) q1172 dX1_takeLand_39 ?_
      refine lv_iload_n F.x F.b dX1_takeLand_42 rfl (lv_at hl 1 rfl) ?_
      refine m_ld (v := ((S1.2 17) (v))) F I 17 (by decide) (show v < 3 by omega) rfl dX1_takeLand_43 ?_
      refine m_st F I 7 (by decide) (show v < 3 by omega) dX1_takeLand_44 (fun H locs (I : Iw G A s (mW G o q (S1.1, va_up S1.2 7 (upd (S1.2 7) (v) (((S1.2 17) (v)))))) H locs) => ?_)
      refine lv_iinc (v := nI ((v + 1))) (lv' := [(1, .int (nI ((v + 1)))), (0, .ref (o))]) F.x F.b dX1_takeLand_45 hl (k := 1) rfl (nI_1 (v)) (by decide) rfl (fun ls hl => ?_)
      refine lv_goto (tgt := 28) F.x F.b dX1_takeLand_48 (by decide) ?_
      exact ih28 _ _ _ _ (by omega) ⟨v + 1, (S1.1, va_up S1.2 7 (upd (S1.2 7) (v) (((S1.2 17) (v))))), rfl, by omega, by exact hk1.tr (by exact ⟨rfl, rfl, rfl, rfl, rfl, rfl, rfl, rfl, rfl, rfl⟩), by exact hS, by exact up_lt hG (by rw [hk1.2.2.2.2.2.2.2.2.1]; exact (hrG v (by omega)).1), I, lv_sub hl [1, 0] rfl⟩
  · refine lv_aload_n F.x F.b dX1_takeLand_8 rfl (lv_at hl 0 rfl) ?_
    refine m_geta F I 6 (by decide) q1161 dX1_takeLand_9 ?_
    refine lv_iload_n F.x F.b dX1_takeLand_12 rfl (lv_at hl 1 rfl) ?_
    refine lv_aload_n F.x F.b dX1_takeLand_13 rfl (lv_at hl 0 rfl) ?_
    refine m_geta F I 16 (by decide) q1171 dX1_takeLand_14 ?_
    refine lv_iload_n F.x F.b dX1_takeLand_17 rfl (lv_at hl 1 rfl) ?_
    refine m_ld (v := ((S1.2 16) (d))) F I 16 (by decide) (show d < 8 by omega) rfl dX1_takeLand_18 ?_
    refine m_st F I 6 (by decide) (show d < 8 by omega) dX1_takeLand_19 (fun H locs (I : Iw G A s (mW G o q (S1.1, va_up S1.2 6 (upd (S1.2 6) (d) (((S1.2 16) (d)))))) H locs) => ?_)
    refine lv_iinc (v := nI ((d + 1))) (lv' := [(1, .int (nI ((d + 1)))), (0, .ref (o))]) F.x F.b dX1_takeLand_20 hl (k := 1) rfl (nI_1 (d)) (by decide) rfl (fun ls hl => ?_)
    refine lv_goto (tgt := 2) F.x F.b dX1_takeLand_23 (by decide) ?_
    exact ih2 _ _ _ _ (by omega) ⟨d + 1, (S1.1, va_up S1.2 6 (upd (S1.2 6) (d) (((S1.2 16) (d))))), rfl, by omega, by exact hk1.tr (by exact ⟨rfl, rfl, rfl, rfl, rfl, rfl, rfl, rfl, rfl, rfl⟩), by exact up_lt hS (by rw [hk1.2.2.2.2.2.2.2.1]; exact (hrS d (by omega)).1), I, lv_sub hl [1, 0] rfl⟩
