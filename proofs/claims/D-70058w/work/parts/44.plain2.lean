/-! PLAIN LAW: safe, peace -/
set_option maxRecDepth 100000
theorem l12_ne {L : LD} {a b k : Nat} (h : k ≠ 7) : l12 L a b k = L k := by
  unfold l12 lUp va_up
  rw [if_neg h, if_neg h]
theorem agr_12 {α : Type} {L : LD} {a b : Nat} {A B : α → Nat} : agr (l12 L a b) (fun x => l12 L (A x) (B x)) := ⟨fun x k hk => by show l12 L (A x) (B x) k = l12 L a b k; rw [l12_ne hk, l12_ne hk], fun x => rfl⟩
theorem pBy_mono {L : LD} (hL : LOk L) {ms f x a b a' b' : Nat} (ha : a ≤ 255) (hb : b ≤ 255) (ha' : a' ≤ 255) (hb' : b' ≤ 255) (h1 : ∀ t, t < 8 → a.testBit t = true → a'.testBit t = true) (h2 : ∀ t, t < 8 → b.testBit t = true → b'.testBit t = true) (hf : f < 8) (h : pBy (l12 L a b) ms f x = true) : pBy (l12 L a' b') ms f x = true := by
  obtain ⟨t, u, ht, hu, g1, g2, g3⟩ := pBy_fam (α := Unit) (La := fun _ => l12 L a' b') agr_12 (hL.l12 ha hb) (fun _ => hL.l12 ha' hb') hf h
  exact g3 () (h1 t ht g1) (h2 u hu g2)
theorem clr_bit : ∀ z, z < 256 → ∀ a, a < 9 → ∀ t, t < 8 → (clr z a).testBit t = (z.testBit t && decide (t ≠ a)) := by decide +kernel
theorem sfN_iff {L : LD} {d x : Nat} : ∀ n, sfN L d x n = true ↔ ∀ k, k < n → pBy (l12 L (clr (L 7 1) (k / 9)) (clr (L 7 2) (k % 9))) 99 d x = true
  | 0 => ⟨fun _ k hk => absurd hk (Nat.not_lt_zero _), fun _ => rfl⟩
  | n + 1 => by
    rw [sfN, Bool.and_eq_true, sfN_iff n]
    constructor
    · rintro ⟨h1, h2⟩ k hk
      rcases Nat.lt_or_ge k n with h | h
      · exact h1 k h
      · rw [show k = n by omega]; exact h2
    · intro h
      exact ⟨fun k hk => h k (by omega), h n (by omega)⟩
theorem sfC_iff {L : LD} {d x : Nat} : ∀ n, sfC L d x n = true ↔ pBy L 99 d x = true ∧ ∀ k, k < n → pBy (l12 L (clr (L 7 1) (k / 8)) (clr (L 7 2) (k % 8))) 99 d x = true
  | 0 => ⟨fun h => ⟨h, fun k hk => absurd hk (Nat.not_lt_zero _)⟩, fun h => h.1⟩
  | n + 1 => by
    rw [sfC, Bool.and_eq_true, sfC_iff n]
    constructor
    · rintro ⟨⟨h0, h1⟩, h2⟩
      refine ⟨h0, fun k hk => ?_⟩
      rcases Nat.lt_or_ge k n with h | h
      · exact h1 k h
      · rw [show k = n by omega]; exact h2
    · rintro ⟨h0, h⟩
      exact ⟨⟨h0, fun k hk => h k (by omega)⟩, h n (by omega)⟩
theorem sf_eq {L : LD} (hL : LOk L) {d x : Nat} (hd : d < 8) : sfC L d x 64 = sfN L d x 81 := by
  have z1 := hL.2.2.2 1 (by omega)
  have z2 := hL.2.2.2 2 (by omega)
  have c1 := fun k => Nat.le_trans (clr_le (L 7 1) k) z1
  have c2 := fun k => Nat.le_trans (clr_le (L 7 2) k) z2
  rw [Bool.eq_iff_iff, sfC_iff, sfN_iff]
  constructor
  · rintro ⟨-, h⟩ k hk
    have := h (8 * (if k / 9 < 8 then k / 9 else 0) + (if k % 9 < 8 then k % 9 else 0)) (by split <;> split <;> omega)
    rw [show (8 * (if k / 9 < 8 then k / 9 else 0) + (if k % 9 < 8 then k % 9 else 0)) / 8 = (if k / 9 < 8 then k / 9 else 0) by split <;> split <;> omega, show (8 * (if k / 9 < 8 then k / 9 else 0) + (if k % 9 < 8 then k % 9 else 0)) % 8 = (if k % 9 < 8 then k % 9 else 0) by split <;> split <;> omega] at this
    refine pBy_mono hL (c1 _) (c2 _) (c1 _) (c2 _) (fun t ht => ?_) (fun t ht => ?_) hd this
    · rw [clr_bit _ (by omega) _ (by split <;> omega) t ht, clr_bit _ (by omega) _ (by omega) t ht]
      simp only [Bool.and_eq_true, decide_eq_true_eq]
      rintro ⟨g1, g2⟩
      exact ⟨g1, by split at g2 <;> omega⟩
    · rw [clr_bit _ (by omega) _ (by split <;> omega) t ht, clr_bit _ (by omega) _ (by omega) t ht]
      simp only [Bool.and_eq_true, decide_eq_true_eq]
      rintro ⟨g1, g2⟩
      exact ⟨g1, by split at g2 <;> omega⟩
  · intro h
    have e8 : ∀ z, z ≤ 255 → clr z 8 = z := by
      intro z hz
      unfold clr
      rw [Nat.testBit_lt_two_pow (by omega)]
      simp
    have e12 : l12 L (L 7 1) (L 7 2) = L := by
      funext k j
      by_cases hk : k = 7
      · subst hk
        show va_up (va_up (L 7) 1 (L 7 1)) 2 (L 7 2) j = L 7 j
        unfold va_up
        by_cases h2 : j = 2
        · rw [if_pos h2, h2]
        · rw [if_neg h2]
          by_cases h1 : j = 1
          · rw [if_pos h1, h1]
          · rw [if_neg h1]
      · rw [l12_ne hk]
    refine ⟨?_, fun k hk => ?_⟩
    · have := h 80 (by omega)
      rw [show (80 : Nat) / 9 = 8 from rfl, show (80 : Nat) % 9 = 8 from rfl, e8 _ z1, e8 _ z2, e12] at this
      exact this
    · have := h (9 * (k / 8) + k % 8) (by omega)
      rw [show (9 * (k / 8) + k % 8) / 9 = k / 8 by omega, show (9 * (k / 8) + k % 8) % 9 = k % 8 by omega] at this
      exact this
