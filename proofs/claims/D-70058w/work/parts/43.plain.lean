/-! PLAIN LAW: a wheel takes rennet on one day and salt on one day -/
set_option maxRecDepth 100000
theorem cm_ne {T : Nat → Nat} {d v r h k : Nat} (hh : h ≤ 98) : pCm T d v r h k ≠ 99 ↔ (d < 8 ∧ k = pSp d v r) ∨ T k ≠ 99 := by
  unfold pCm
  split
  · rename_i hd
    unfold va_up
    split
    · rename_i hk
      have := Nat.min_le_right (T (pSp d v r)) h
      exact ⟨fun _ => Or.inl ⟨hd, hk⟩, fun _ => by omega⟩
    · rename_i hk
      exact ⟨fun z => Or.inr z, fun z => z.elim (fun y => absurd y.2 hk) id⟩
  · rename_i hd
    exact ⟨fun z => Or.inr z, fun z => z.elim (fun y => absurd y.1 hd) id⟩
/-- what a wheel at a place reaches -/
def psh (L : LD) (ms d v r k : Nat) : Prop := (d + 1 < 8 ∧ k = pSp (d + 1) v r) ∨ ∃ p, p < L 5 0 ∧ pOp L ms p d = true ∧ pOv L p v ≠ 99 ∧ d + pTk L p < 8 ∧ k = pSp (d + pTk L p) (pOv L p v) r
theorem ps_ne {L : LD} {ms d v r h k : Nat} {T : Nat → Nat} (hh : h ≤ 98) : ∀ n, pPs L ms d v r h T n k ≠ 99 ↔ T k ≠ 99 ∨ ∃ p, p < n ∧ pOp L ms p d = true ∧ pOv L p v ≠ 99 ∧ d + pTk L p < 8 ∧ k = pSp (d + pTk L p) (pOv L p v) r
  | 0 => ⟨fun z => Or.inl z, fun z => z.elim id (fun ⟨p, hp, _⟩ => absurd hp (Nat.not_lt_zero _))⟩
  | n + 1 => by
    have ih := ps_ne (L := L) (ms := ms) (d := d) (v := v) (r := r) (k := k) (T := T) hh n
    rw [pPs]
    split
    · rename_i hc
      rw [Bool.and_eq_true, decide_eq_true_eq] at hc
      rw [cm_ne hh, ih]
      constructor
      · rintro (⟨h1, h2⟩ | h1 | ⟨p, hp, hr⟩)
        · exact Or.inr ⟨n, by omega, hc.1, hc.2, h1, h2⟩
        · exact Or.inl h1
        · exact Or.inr ⟨p, by omega, hr⟩
      · rintro (h1 | ⟨p, hp, hr⟩)
        · exact Or.inr (Or.inl h1)
        · rcases Nat.lt_or_ge p n with h2 | h2
          · exact Or.inr (Or.inr ⟨p, h2, hr⟩)
          · have : p = n := by omega
            subst this
            exact Or.inl ⟨hr.2.2.1, hr.2.2.2⟩
    · rename_i hc
      rw [Bool.and_eq_true, decide_eq_true_eq] at hc
      rw [ih]
      constructor
      · rintro (h1 | ⟨p, hp, hr⟩)
        · exact Or.inl h1
        · exact Or.inr ⟨p, by omega, hr⟩
      · rintro (h1 | ⟨p, hp, hr⟩)
        · exact Or.inl h1
        · rcases Nat.lt_or_ge p n with h2 | h2
          · exact Or.inr ⟨p, h2, hr⟩
          · have : p = n := by omega
            subst this
            exact absurd ⟨hr.1, hr.2.1⟩ hc
theorem go_ne {L : LD} {ms d v r k : Nat} {w : WH} (hw : wOk w) (hd : d < 8) (hv : v < 3) (hr : r < 2) : (pGo L ms w d v r).1 k ≠ 99 ↔ w.1 k ≠ 99 ∨ (w.1 (pSp d v r) ≠ 99 ∧ psh L ms d v r k) := by
  unfold pGo
  split
  · rename_i h
    exact ⟨fun z => Or.inl z, fun z => z.elim id (fun y => absurd h y.1)⟩
  · rename_i h
    have hb := (hw.1 d v r hd hv hr).resolve_left h
    show pPs L ms d v r (w.1 (pSp d v r)) (pCm w.1 (d + 1) v r (w.1 (pSp d v r) + 1)) (L 5 0) k ≠ 99 ↔ _
    rw [ps_ne (by omega), cm_ne (by omega)]
    unfold psh
    constructor
    · rintro ((h1 | h1) | h1)
      · exact Or.inr ⟨h, Or.inl h1⟩
      · exact Or.inl h1
      · exact Or.inr ⟨h, Or.inr h1⟩
    · rintro (h1 | ⟨_, h1 | h1⟩)
      · exact Or.inl (Or.inr h1)
      · exact Or.inl (Or.inl h1)
      · exact Or.inr h1
theorem rn_ne {L : LD} {d k : Nat} {w : WH} (hw : wOk w) (hd : d < 8) : (pRn L d w).1 k ≠ 99 ↔ w.1 k ≠ 99 ∨ (w.1 (pSp d 1 0) ≠ 99 ∧ pGv L 1 d = true ∧ k = pSp d 1 1) := by
  unfold pRn
  split
  · rename_i h
    have hb := (hw.1 d 1 0 hd (by omega) (by omega)).resolve_left h.1
    show pCm w.1 d 1 1 (w.1 (pSp d 1 0)) k ≠ 99 ↔ _
    rw [cm_ne (by omega)]
    constructor
    · rintro (h1 | h1)
      · exact Or.inr ⟨h.1, h.2, h1.2⟩
      · exact Or.inl h1
    · rintro (h1 | h1)
      · exact Or.inr h1
      · exact Or.inl ⟨hd, h1.2.2⟩
  · rename_i h
    exact ⟨fun z => Or.inl z, fun z => z.elim id (fun y => absurd ⟨y.1, y.2.1⟩ h)⟩
section FAM
variable {α : Type} {L : LD} {La : α → LD} {ms : Nat}
/-- lands that differ from L in what valleys 1 and 2 give alone -/
def agr (L : LD) (La : α → LD) : Prop := (∀ a k, k ≠ 7 → La a k = L k) ∧ ∀ a, La a 7 0 = L 7 0
theorem agr_psh (h : agr L La) (a : α) {d v r k : Nat} : psh (La a) ms d v r k ↔ psh L ms d v r k := by
  unfold psh pOp pTk pOv
  rw [h.1 a 5 (by decide), h.1 a 6 (by decide), h.1 a 8 (by decide), h.1 a 9 (by decide), h.1 a 10 (by decide), h.1 a 11 (by decide), h.1 a 12 (by decide)]
/-- each place reached in L is reached in every land that gives on one and the same day of rennet -/
def tR (L : LD) (La : α → LD) (w : WH) (wa : α → WH) : Prop := ∀ d v r, d < 8 → v < 3 → r < 2 → w.1 (pSp d v r) ≠ 99 → ∃ t, t < 8 ∧ (r = 1 → pGv L 1 t = true) ∧ ∀ a, (r = 1 → pGv (La a) 1 t = true) → (wa a).1 (pSp d v r) ≠ 99
def sR (L : LD) (La : α → LD) (w : WH) (wa : α → WH) : Prop := w.2.1 ≠ 99 → ∃ t u, t < 8 ∧ u < 8 ∧ pGv L 1 t = true ∧ pGv L 2 u = true ∧ ∀ a, pGv (La a) 1 t = true → pGv (La a) 2 u = true → (wa a).2.1 ≠ 99 ∧ (wa a).2.1 ≤ w.2.1
def fR (L : LD) (La : α → LD) (D : Nat) (w : WH) (wa : α → WH) : Prop := tR L La w wa ∧ sR L La w wa ∧ wOk w ∧ (∀ a, wOk (wa a)) ∧ ∀ a, (wa a).2.1 ≠ 99 → (wa a).2.1 ≤ D
theorem fR_go (hag : agr L La) (hL : LOk L) (hLa : ∀ a, LOk (La a)) {d v r : Nat} {w : WH} {wa : α → WH} (hd : d < 8) (hv : v < 3) (hr : r < 2) (h : fR L La d w wa) : fR L La d (pGo L ms w d v r) (fun a => pGo (La a) ms (wa a) d v r) := by
  obtain ⟨hT, hs, hw, hwa, hD⟩ := h
  have dn : ∀ (M : LD) (x : WH), x.1 (pSp d v r) ≠ 99 → (pGo M ms x d v r).2 = pDn M x d v r := fun M x hx => by unfold pGo; rw [if_neg hx]
  have dk : ∀ (M : LD) (x : WH), x.1 (pSp d v r) = 99 → (pGo M ms x d v r).2 = x.2 := fun M x hx => by unfold pGo; rw [if_pos hx]
  have dl : ∀ (M : LD) (x : WH), x.2.1 ≠ 99 → (pGo M ms x d v r).2.1 = x.2.1 := fun M x hx => by
    by_cases h9 : x.1 (pSp d v r) = 99
    · rw [dk M x h9]
    · rw [dn M x h9]; unfold pDn
      by_cases hc : r = 1 ∧ v = 2 ∧ pGv M 2 d = true
      · rw [if_pos hc]
        show (if x.2.1 = 99 then d else x.2.1) = x.2.1
        rw [if_neg hx]
      · rw [if_neg hc]
  refine ⟨?_, ?_, wOk_go hL hw hd hv hr, fun a => wOk_go (hLa a) (hwa a) hd hv hr, ?_⟩
  · intro d' v' r' hd' hv' hr' hne
    rcases (go_ne hw hd hv hr).mp hne with h1 | ⟨h1, h2⟩
    · obtain ⟨t, ht, ht1, ht2⟩ := hT d' v' r' hd' hv' hr' h1
      exact ⟨t, ht, ht1, fun a ha => (go_ne (hwa a) hd hv hr).mpr (Or.inl (ht2 a ha))⟩
    · obtain ⟨t, ht, ht1, ht2⟩ := hT d v r hd hv hr h1
      have er : r' = r := by
        rcases h2 with h3 | ⟨p, h5, -, h6, -, h4⟩
        · exact (pSp_inj hv' hr' hv hr h3.2).2.2
        · have := pOv_in (v := v) hL h5
          exact (pSp_inj hv' hr' (by omega) hr h4).2.2
      subst er
      exact ⟨t, ht, ht1, fun a ha => (go_ne (hwa a) hd hv hr).mpr (Or.inr ⟨ht2 a ha, (agr_psh hag a).mpr h2⟩)⟩
  · intro hne
    by_cases h9 : w.2.1 = 99
    · by_cases hx : w.1 (pSp d v r) = 99
      · rw [dk L w hx] at hne; exact absurd h9 hne
      · rw [dn L w hx] at hne
        have hc : r = 1 ∧ v = 2 ∧ pGv L 2 d = true := by
          by_cases hc : r = 1 ∧ v = 2 ∧ pGv L 2 d = true
          · exact hc
          · unfold pDn at hne; rw [if_neg hc] at hne; exact absurd h9 hne
        obtain ⟨t, ht, ht1, ht2⟩ := hT d v r hd hv hr hx
        have e1 : (pGo L ms w d v r).2.1 = d := by
          rw [dn L w hx]; unfold pDn; rw [if_pos hc]
          show (if w.2.1 = 99 then d else w.2.1) = d
          rw [if_pos h9]
        refine ⟨t, d, ht, hd, ht1 hc.1, hc.2.2, fun a ha hb => ?_⟩
        have hxa := ht2 a (fun _ => ha)
        have e2 : (pGo (La a) ms (wa a) d v r).2.1 = if (wa a).2.1 = 99 then d else (wa a).2.1 := by
          rw [dn _ _ hxa]; unfold pDn; rw [if_pos ⟨hc.1, hc.2.1, hb⟩]
        show (pGo (La a) ms (wa a) d v r).2.1 ≠ 99 ∧ (pGo (La a) ms (wa a) d v r).2.1 ≤ _
        rw [e1, e2]
        split
        · exact ⟨by omega, Nat.le_refl _⟩
        · rename_i hz; exact ⟨hz, hD a hz⟩
    · obtain ⟨t, u, ht, hu, h1, h2, h3⟩ := hs h9
      refine ⟨t, u, ht, hu, h1, h2, fun a ha hb => ?_⟩
      obtain ⟨g1, g2⟩ := h3 a ha hb
      show (pGo (La a) ms (wa a) d v r).2.1 ≠ 99 ∧ (pGo (La a) ms (wa a) d v r).2.1 ≤ _
      rw [dl _ _ g1, dl _ _ h9]
      exact ⟨g1, g2⟩
  · intro a hne
    show (pGo (La a) ms (wa a) d v r).2.1 ≤ d
    have hne : (pGo (La a) ms (wa a) d v r).2.1 ≠ 99 := hne
    by_cases h9 : (wa a).2.1 = 99
    · by_cases hx : (wa a).1 (pSp d v r) = 99
      · rw [dk _ _ hx] at hne; exact absurd h9 hne
      · rw [dn _ _ hx] at hne ⊢
        unfold pDn at hne ⊢
        by_cases hc : r = 1 ∧ v = 2 ∧ pGv (La a) 2 d = true
        · rw [if_pos hc]
          show (if (wa a).2.1 = 99 then d else (wa a).2.1) ≤ d
          rw [if_pos h9]; exact Nat.le_refl _
        · rw [if_neg hc] at hne; exact absurd h9 hne
    · rw [dl _ _ h9]; exact hD a h9
theorem fR_row (hag : agr L La) (hL : LOk L) (hLa : ∀ a, LOk (La a)) {d : Nat} {w : WH} {wa : α → WH} (hd : d < 8) (h : fR L La d w wa) : ∀ k, k ≤ 6 → fR L La d (pRow L ms d w k) (fun a => pRow (La a) ms d (wa a) k)
  | 0, _ => h
  | k + 1, hk => fR_go hag hL hLa hd (by omega) (by omega) (fR_row hag hL hLa hd h k (by omega))
theorem fR_rn {d : Nat} {w : WH} {wa : α → WH} (hd : d < 8) (h : fR L La d w wa) : fR L La d (pRn L d w) (fun a => pRn (La a) d (wa a)) := by
  obtain ⟨hT, hs, hw, hwa, hD⟩ := h
  have e : ∀ (M : LD) (x : WH), (pRn M d x).2 = x.2 := fun M x => by unfold pRn; split <;> rfl
  refine ⟨?_, ?_, wOk_rn hw hd, fun a => wOk_rn (hwa a) hd, fun a => ?_⟩
  · intro d' v' r' hd' hv' hr' hne
    rcases (rn_ne hw hd).mp hne with h1 | ⟨h1, h2, h3⟩
    · obtain ⟨t, ht, ht1, ht2⟩ := hT d' v' r' hd' hv' hr' h1
      exact ⟨t, ht, ht1, fun a ha => (rn_ne (hwa a) hd).mpr (Or.inl (ht2 a ha))⟩
    · obtain ⟨e1, e2, e3⟩ := pSp_inj hv' hr' (by omega) (by omega) h3
      subst e1; subst e2; subst e3
      obtain ⟨t, ht, -, ht2⟩ := hT d' 1 0 hd (by omega) (by omega) h1
      exact ⟨d', hd, fun _ => h2, fun a ha => (rn_ne (hwa a) hd).mpr (Or.inr ⟨ht2 a (fun z => absurd z (by decide)), ha rfl, rfl⟩)⟩
  · show (pRn L d w).2.1 ≠ 99 → _
    intro hne
    rw [e] at hne
    obtain ⟨t, u, ht, hu, h1, h2, h3⟩ := hs hne
    refine ⟨t, u, ht, hu, h1, h2, fun a ha hb => ?_⟩
    show (pRn (La a) d (wa a)).2.1 ≠ 99 ∧ (pRn (La a) d (wa a)).2.1 ≤ (pRn L d w).2.1
    rw [e, e]; exact h3 a ha hb
  · show (pRn (La a) d (wa a)).2.1 ≠ 99 → (pRn (La a) d (wa a)).2.1 ≤ d
    rw [e]; exact hD a
theorem fR.up {D E : Nat} {w : WH} {wa : α → WH} (h : fR L La D w wa) (hDE : D ≤ E) : fR L La E w wa := ⟨h.1, h.2.1, h.2.2.1, h.2.2.2.1, fun a ha => Nat.le_trans (h.2.2.2.2 a ha) hDE⟩
theorem fR_days (hag : agr L La) (hL : LOk L) (hLa : ∀ a, LOk (La a)) {f : Nat} {w : WH} {wa : α → WH} (h : fR L La f w wa) : ∀ n, f + n ≤ 8 → fR L La (f + n) (pDays L ms f w n) (fun a => pDays (La a) ms f (wa a) n)
  | 0, _ => h
  | n + 1, hn => (fR_row hag hL hLa (by omega) (fR_rn (by omega) (fR_days hag hL hLa h n (by omega))) 6 (Nat.le_refl 6)).up (by omega)
theorem fR_st (hag : agr L La) {f : Nat} (hf : f < 8) : fR L La f (pSt L f) (fun a => pSt (La a) f) := by
  have e : ∀ a, pSt (La a) f = pSt L f := fun a => by unfold pSt pGv; rw [hag.2 a]
  have e2 : (pSt L f).2.1 = 99 := rfl
  refine ⟨?_, fun z => absurd e2 z, wOk_st, fun a => wOk_st, fun a z => absurd rfl z⟩
  intro d v r hd hv hr hne
  refine ⟨0, by omega, ?_, fun a _ => by show (pSt (La a) f).1 _ ≠ 99; rw [e a]; exact hne⟩
  intro hr1
  exfalso
  subst hr1
  unfold pSt at hne
  by_cases hg : pGv L 0 f = true
  · rw [if_pos hg] at hne
    rcases (cm_ne (by omega)).mp hne with h1 | h1
    · have := (pSp_inj hv (by omega) (by omega) (by omega) h1.2).2.2
      omega
    · exact h1 rfl
  · rw [if_neg hg] at hne; exact hne rfl
theorem pBy_fam (hag : agr L La) (hL : LOk L) (hLa : ∀ a, LOk (La a)) {f x : Nat} (hf : f < 8) (h : pBy L ms f x = true) : ∃ t u, t < 8 ∧ u < 8 ∧ pGv L 1 t = true ∧ pGv L 2 u = true ∧ ∀ a, pGv (La a) 1 t = true → pGv (La a) 2 u = true → pBy (La a) ms f x = true := by
  have hR := fR_days (ms := ms) hag hL hLa (fR_st hag hf) (8 - f) (by omega)
  unfold pBy at h
  rw [Bool.and_eq_true, decide_eq_true_eq, decide_eq_true_eq] at h
  obtain ⟨t, u, ht, hu, h1, h2, h3⟩ := hR.2.1 h.1
  refine ⟨t, u, ht, hu, h1, h2, fun a ha hb => ?_⟩
  obtain ⟨g1, g2⟩ := h3 a ha hb
  unfold pBy
  rw [Bool.and_eq_true, decide_eq_true_eq, decide_eq_true_eq]
  exact ⟨g1, Nat.le_trans g2 h.2⟩
end FAM
