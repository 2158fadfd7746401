/-! PLAIN LAW: peace -/
set_option maxRecDepth 100000
def mnv (P : Nat → Bool) (z : Nat → Nat) : Nat → Nat
  | 0 => 99
  | k + 1 => if (mnv P z k = 99 ∨ z k < mnv P z k) ∧ P k = true then z k else mnv P z k
theorem mn_spec {P : Nat → Bool} {z : Nat → Nat} (hz : ∀ k, z k ≤ 2) : ∀ n, (mnv P z n = 99 ∧ ∀ k, k < n → P k = false) ∨ ∃ k, k < n ∧ P k = true ∧ mnv P z n = z k ∧ ∀ k', k' < n → P k' = true → z k ≤ z k'
  | 0 => Or.inl ⟨rfl, fun k hk => absurd hk (Nat.not_lt_zero _)⟩
  | n + 1 => by
    have hn := hz n
    rw [mnv]
    by_cases hc : (mnv P z n = 99 ∨ z n < mnv P z n) ∧ P n = true
    · rw [if_pos hc]
      refine Or.inr ⟨n, by omega, hc.2, rfl, fun k' hk' hP => ?_⟩
      rcases Nat.lt_or_ge k' n with h | h
      · rcases mn_spec (P := P) hz n with ⟨h1, h2⟩ | ⟨k, hk, h1, h2, h3⟩
        · rw [h2 k' h] at hP; exact absurd hP (by decide)
        · have := h3 k' h hP
          have := hz k
          omega
      · rw [show k' = n by omega]; exact Nat.le_refl _
    · rw [if_neg hc]
      rcases mn_spec (P := P) hz n with ⟨h1, h2⟩ | ⟨k, hk, h1, h2, h3⟩
      · refine Or.inl ⟨h1, fun k' hk' => ?_⟩
        rcases Nat.lt_or_ge k' n with h | h
        · exact h2 k' h
        · rw [show k' = n by omega]
          cases hP : P n with
          | false => rfl
          | true => exact absurd ⟨Or.inl h1, hP⟩ hc
      · refine Or.inr ⟨k, by omega, h1, h2, fun k' hk' hP => ?_⟩
        rcases Nat.lt_or_ge k' n with h | h
        · exact h3 k' h hP
        · have e : k' = n := by omega
          subst e
          have : ¬ z k' < mnv P z k' := fun q => hc ⟨Or.inr q, hP⟩
          omega
theorem mn_eq {P P' : Nat → Bool} {z z' : Nat → Nat} {n n' : Nat} (hz : ∀ k, z k ≤ 2) (hz' : ∀ k, z' k ≤ 2) (h : ∀ k, k < n → P k = true → ∃ k', k' < n' ∧ P' k' = true ∧ z' k' ≤ z k) (h' : ∀ k, k < n' → P' k = true → ∃ k', k' < n ∧ P k' = true ∧ z k' ≤ z' k) : mnv P z n = mnv P' z' n' := by
  rcases mn_spec (P := P) hz n with ⟨h1, h2⟩ | ⟨k, hk, h1, h2, h3⟩ <;> rcases mn_spec (P := P') hz' n' with ⟨g1, g2⟩ | ⟨j, hj, g1, g2, g3⟩
  · rw [h1, g1]
  · obtain ⟨i, hi, q1, q2⟩ := h' j hj g1
    rw [h2 i hi] at q1; exact absurd q1 (by decide)
  · obtain ⟨i, hi, q1, q2⟩ := h k hk h1
    rw [g2 i hi] at q1; exact absurd q1 (by decide)
  · obtain ⟨i, hi, q1, q2⟩ := h' j hj g1
    obtain ⟨i', hi', q1', q2'⟩ := h k hk h1
    have := h3 i hi q1
    have := g3 i' hi' q1'
    rw [h2, g2]; omega
theorem pcC_mn {L : LD} {d x : Nat} : ∀ n, pcC L d x n = mnv (fun k => pBy (l12 L (adC (L 7 1) (k / 9)) (adC (L 7 2) (k % 9))) 99 d x) (fun k => mrC (L 7 1) (k / 9) + mrC (L 7 2) (k % 9)) n
  | 0 => rfl
  | n + 1 => by rw [pcC, mnv, pcC_mn n]
def aN (z i : Nat) : Nat := if i = 1 then 255 else z
theorem pcN_mn {L : LD} {d x : Nat} : ∀ n, n ≤ 4 → pcN L d x n = mnv (fun k => pBy (l12 L (aN (L 7 1) (k % 2)) (aN (L 7 2) (k / 2))) 99 d x) (fun k => min (k % 2) 1 + min (k / 2) 1) n
  | 0, _ => rfl
  | n + 1, hn => by
    rw [pcN, mnv, pcN_mn n (by omega), show min (n % 2) 1 + min (n / 2) 1 = n % 2 + n / 2 by omega]
    rfl
theorem ad_sub : ∀ z, z < 256 → ∀ a, a < 9 → ∀ t, t < 8 → (adC z a).testBit t = true → (aN z (mrC z a)).testBit t = true := by decide +kernel
theorem ad_has : ∀ z, z < 256 → ∀ t, t < 8 → (adC z (if z.testBit t then 8 else t)).testBit t = true := by decide +kernel
theorem aN_cost : ∀ z, z < 256 → ∀ i, i < 2 → ∀ t, t < 8 → (aN z i).testBit t = true → mrC z (if z.testBit t then 8 else t) ≤ i := by decide +kernel
theorem pc_eq {L : LD} (hL : LOk L) {d x : Nat} (hd : d < 8) : pcC L d x 81 = pcN L d x 4 := by
  have z1 := hL.2.2.2 1 (by omega)
  have z2 := hL.2.2.2 2 (by omega)
  have b1 : ∀ z, z ≤ 255 → ∀ i, aN z i ≤ 255 := fun z hz i => by unfold aN; split <;> omega
  rw [pcC_mn, pcN_mn 4 (by omega)]
  refine mn_eq (fun k => by have h1 := mrC_le (L 7 1) (k / 9); have h2 := mrC_le (L 7 2) (k % 9); omega) (fun k => by omega) ?_ ?_
  · intro k hk hP
    have h1 := mrC_le (L 7 1) (k / 9)
    have h2 := mrC_le (L 7 2) (k % 9)
    refine ⟨mrC (L 7 1) (k / 9) + 2 * mrC (L 7 2) (k % 9), by omega, ?_, by omega⟩
    show pBy (l12 L (aN (L 7 1) ((mrC (L 7 1) (k / 9) + 2 * mrC (L 7 2) (k % 9)) % 2)) (aN (L 7 2) ((mrC (L 7 1) (k / 9) + 2 * mrC (L 7 2) (k % 9)) / 2))) 99 d x = true
    rw [show (mrC (L 7 1) (k / 9) + 2 * mrC (L 7 2) (k % 9)) % 2 = mrC (L 7 1) (k / 9) by omega, show (mrC (L 7 1) (k / 9) + 2 * mrC (L 7 2) (k % 9)) / 2 = mrC (L 7 2) (k % 9) by omega]
    exact pBy_mono hL (adC_le _ (by omega) _ (by omega)) (adC_le _ (by omega) _ (by omega)) (b1 _ z1 _) (b1 _ z2 _) (ad_sub _ (by omega) _ (by omega)) (ad_sub _ (by omega) _ (by omega)) hd hP
  · intro k hk hP
    obtain ⟨t, u, ht, hu, g1, g2, g3⟩ := pBy_fam (α := Nat) (La := fun n => l12 L (adC (L 7 1) (n / 9 % 9)) (adC (L 7 2) (n % 9))) agr_12 (hL.l12 (b1 _ z1 (k % 2)) (b1 _ z2 (k / 2))) (fun n => hL.l12 (adC_le _ (by omega) _ (by omega)) (adC_le _ (by omega) _ (by omega))) hd hP
    have q1 := aN_cost (L 7 1) (by omega) (k % 2) (by omega) t ht g1
    have q2 := aN_cost (L 7 2) (by omega) (k / 2) (by omega) u hu g2
    have r1 := ad_has (L 7 1) (by omega) t ht
    have r2 := ad_has (L 7 2) (by omega) u hu
    have s1 : (if (L 7 1).testBit t then 8 else t) < 9 := by split <;> omega
    have s2 : (if (L 7 2).testBit u then 8 else u) < 9 := by split <;> omega
    generalize (if (L 7 1).testBit t then 8 else t) = a at q1 r1 s1
    generalize (if (L 7 2).testBit u then 8 else u) = b at q2 r2 s2
    have e1 : (9 * a + b) / 9 = a := by omega
    have e2 : (9 * a + b) % 9 = b := by omega
    have e3 : (9 * a + b) / 9 % 9 = a := by omega
    refine ⟨9 * a + b, by omega, ?_, ?_⟩
    · have := g3 (9 * a + b) (by show (adC (L 7 1) ((9 * a + b) / 9 % 9)).testBit t = true; rw [e3]; exact r1) (by show (adC (L 7 2) ((9 * a + b) % 9)).testBit u = true; rw [e2]; exact r2)
      show pBy (l12 L (adC (L 7 1) ((9 * a + b) / 9)) (adC (L 7 2) ((9 * a + b) % 9))) 99 d x = true
      have this : pBy (l12 L (adC (L 7 1) ((9 * a + b) / 9 % 9)) (adC (L 7 2) ((9 * a + b) % 9))) 99 d x = true := this
      rw [e3, e2] at this
      rw [e1, e2]; exact this
    · show mrC (L 7 1) ((9 * a + b) / 9) + mrC (L 7 2) ((9 * a + b) % 9) ≤ min (k % 2) 1 + min (k / 2) 1
      rw [e1, e2]; omega
