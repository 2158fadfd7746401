/-! PLAIN LAW, 1: the land, the wheel, over plain numbers; 99 stands for none. A land L by the reference's field numbers: L 5 0 passes; L 6 day: snow; L 7 valley: days it gives; L 8 .. 12 pass: kind, from, to, length, height -/
set_option maxRecDepth 100000
abbrev LD : Type := Nat → Nat → Nat
def pOp (L : LD) (ms j d : Nat) : Bool := decide (j ≠ ms) && (decide (L 8 j = 2) || decide (L 6 d < L 12 j))
def pTk (L : LD) (j : Nat) : Nat := if L 8 j = 0 then L 11 j else if L 8 j = 1 then L 11 j + 1 else (L 11 j + 1) / 2
def pOv (L : LD) (j v : Nat) : Nat := if L 9 j = v then L 10 j else if L 10 j = v then L 9 j else 99
def pGv (L : LD) (v d : Nat) : Bool := (L 7 v).testBit d
def eN (x : Nat) : Int32 := if x = 99 then -9 else nI x
def pSp (d v r : Nat) : Nat := (3 * d + v) * 2 + r
def pCm (T : Nat → Nat) (d v r h : Nat) : Nat → Nat := if d < 8 then va_up T (pSp d v r) (min (T (pSp d v r)) h) else T
def pPs (L : LD) (ms d v r h : Nat) (T : Nat → Nat) : Nat → (Nat → Nat)
  | 0 => T
  | p + 1 => if pOp L ms p d && decide (pOv L p v ≠ 99) then pCm (pPs L ms d v r h T p) (d + pTk L p) (pOv L p v) r h else pPs L ms d v r h T p
abbrev WH : Type := (Nat → Nat) × Nat × Nat
def pDn (L : LD) (w : WH) (d v r : Nat) : Nat × Nat := if r = 1 ∧ v = 2 ∧ pGv L 2 d = true then (if w.2.1 = 99 then d else w.2.1, min w.2.2 (w.1 (pSp d v r))) else w.2
def pGo (L : LD) (ms : Nat) (w : WH) (d v r : Nat) : WH := if w.1 (pSp d v r) = 99 then w else (pPs L ms d v r (w.1 (pSp d v r)) (pCm w.1 (d + 1) v r (w.1 (pSp d v r) + 1)) (L 5 0), pDn L w d v r)
def pRow (L : LD) (ms d : Nat) (w : WH) : Nat → WH
  | 0 => w
  | k + 1 => pGo L ms (pRow L ms d w k) d (k / 2) (k % 2)
def pRn (L : LD) (d : Nat) (w : WH) : WH := if w.1 (pSp d 1 0) ≠ 99 ∧ pGv L 1 d = true then (pCm w.1 d 1 1 (w.1 (pSp d 1 0)), w.2) else w
def pDays (L : LD) (ms f : Nat) (w : WH) : Nat → WH
  | 0 => w
  | n + 1 => pRow L ms (f + n) (pRn L (f + n) (pDays L ms f w n)) 6
def pSt (L : LD) (f : Nat) : WH := (if pGv L 0 f = true then pCm (fun _ => 99) f 0 0 0 else fun _ => 99, 99, 99)
def pWh (L : LD) (ms f : Nat) : WH := pDays L ms f (pSt L f) (8 - f)
def LOk (L : LD) : Prop := L 5 0 ≤ 6 ∧ (∀ j, j < L 5 0 → L 8 j ≤ 2 ∧ L 9 j ≤ 2 ∧ L 10 j ≤ 2 ∧ 1 ≤ L 11 j ∧ L 11 j ≤ 3 ∧ L 12 j ≤ 9) ∧ (∀ d, d < 8 → L 6 d ≤ 9) ∧ ∀ v, v < 3 → L 7 v ≤ 255
/-- a wheel's table: none, or fewer days waited than gone -/
def wOk (w : WH) : Prop := (∀ d v r, d < 8 → v < 3 → r < 2 → w.1 (pSp d v r) = 99 ∨ w.1 (pSp d v r) ≤ d) ∧ (w.2.1 = 99 ∨ w.2.1 < 8) ∧ (w.2.2 = 99 ∨ w.2.2 ≤ 8)
theorem eN_99 : eN 99 = -9 := rfl
theorem eN_i {x : Nat} (h : x ≠ 99) : eN x = nI x := if_neg h
theorem nI_n9 : ∀ x, x < 300 → nI x ≠ -9 := by decide +kernel
theorem eN_iff {x : Nat} (h : x < 300) : eN x = -9 ↔ x = 99 := by
  constructor
  · intro e
    rcases Nat.decEq x 99 with h1 | h1
    · rw [eN_i h1] at e; exact absurd e (nI_n9 x h)
    · exact h1
  · intro e; rw [e]; rfl
theorem eN_cm : ∀ t, t < 100 → ∀ h, h < 99 → (if eN t = -9 then nI h else if nI h < eN t then nI h else eN t) = eN (min t h) := by decide +kernel
theorem gv_bit : ∀ a, a < 256 → ∀ d, d < 8 → decide ((nI a >>> (nI d &&& 31)) &&& 1 = 1) = a.testBit d := by decide +kernel
theorem tk_raw : ∀ k, k < 3 → ∀ n, n < 4 → (if nI k = 0 then nI n else if nI k = 1 then nI n + 1 else (nI n + 1) / 2) = nI (if k = 0 then n else if k = 1 then n + 1 else (n + 1) / 2) := by decide +kernel
theorem pTk_in {L : LD} (hL : LOk L) {j : Nat} (hj : j < L 5 0) : 1 ≤ pTk L j ∧ pTk L j ≤ 4 := by
  obtain ⟨h1, h2, h3, h4, h5, h6⟩ := hL.2.1 j hj
  unfold pTk
  split
  · omega
  · split <;> omega
theorem pOv_in {L : LD} (hL : LOk L) {j v : Nat} (hj : j < L 5 0) : pOv L j v = 99 ∨ pOv L j v ≤ 2 := by
  obtain ⟨h1, h2, h3, h4, h5, h6⟩ := hL.2.1 j hj
  unfold pOv
  split
  · exact Or.inr h3
  · split
    · exact Or.inr h2
    · exact Or.inl rfl
theorem pSp_inj {d v r d' v' r' : Nat} (hv : v < 3) (hr : r < 2) (hv' : v' < 3) (hr' : r' < 2) (h : pSp d v r = pSp d' v' r') : d = d' ∧ v = v' ∧ r = r' := by
  unfold pSp at h; omega
theorem pSp_lt {d v r : Nat} (hd : d < 8) (hv : v < 3) (hr : r < 2) : pSp d v r < 48 := by unfold pSp; omega
theorem pSp_ex {k : Nat} (h : k < 48) : ∃ d v r, d < 8 ∧ v < 3 ∧ r < 2 ∧ k = pSp d v r := ⟨k / 6, k / 2 % 3, k % 2, by omega, by omega, by omega, by unfold pSp; omega⟩
def tOk (T : Nat → Nat) : Prop := ∀ d v r, d < 8 → v < 3 → r < 2 → T (pSp d v r) = 99 ∨ T (pSp d v r) ≤ d
theorem tOk.le {T : Nat → Nat} (h : tOk T) {k : Nat} (hk : k < 48) : T k = 99 ∨ T k ≤ 7 := by
  obtain ⟨d, v, r, h1, h2, h3, rfl⟩ := pSp_ex hk
  rcases h d v r h1 h2 h3 with e | e
  · exact Or.inl e
  · exact Or.inr (by omega)
theorem tOk_cm {T : Nat → Nat} (h : tOk T) {d v r x : Nat} (hv : v < 3) (hr : r < 2) (hx : x ≤ d) : tOk (pCm T d v r x) := by
  intro d' v' r' h1 h2 h3
  unfold pCm
  split
  · unfold va_up
    split
    · rename_i hd e
      obtain ⟨rfl, rfl, rfl⟩ := pSp_inj h2 h3 hv hr e
      right; exact Nat.le_trans (Nat.min_le_right _ _) hx
    · exact h d' v' r' h1 h2 h3
  · exact h d' v' r' h1 h2 h3
theorem tOk_ps {L : LD} (hL : LOk L) {ms d v r x : Nat} {T : Nat → Nat} (h : tOk T) (hr : r < 2) (hx : x ≤ d) : ∀ p, p ≤ L 5 0 → tOk (pPs L ms d v r x T p)
  | 0, _ => h
  | p + 1, hp => by
    have ih := tOk_ps hL (ms := ms) (v := v) h hr hx p (by omega)
    unfold pPs
    split
    · rename_i hc
      rw [Bool.and_eq_true, decide_eq_true_eq] at hc
      have := pOv_in (v := v) hL (show p < L 5 0 by omega)
      exact tOk_cm ih (by omega) hr (by omega)
    · exact ih
theorem wOk_go {L : LD} (hL : LOk L) {ms d v r : Nat} {w : WH} (h : wOk w) (hd : d < 8) (hv : v < 3) (hr : r < 2) : wOk (pGo L ms w d v r) := by
  unfold pGo
  split
  · exact h
  · rename_i hne
    have hle := (h.1 d v r hd hv hr).resolve_left hne
    refine ⟨?_, ?_, ?_⟩
    · exact tOk_ps hL (tOk_cm h.1 hv hr (by omega)) hr hle _ (Nat.le_refl _)
    · show (pDn L w d v r).1 = 99 ∨ (pDn L w d v r).1 < 8
      unfold pDn
      split
      · show (if w.2.1 = 99 then d else w.2.1) = 99 ∨ (if w.2.1 = 99 then d else w.2.1) < 8
        split
        · exact Or.inr hd
        · exact h.2.1
      · exact h.2.1
    · show (pDn L w d v r).2 = 99 ∨ (pDn L w d v r).2 ≤ 8
      unfold pDn
      split
      · right
        show min w.2.2 (w.1 (pSp d v r)) ≤ 8
        have := Nat.min_le_right w.2.2 (w.1 (pSp d v r))
        omega
      · exact h.2.2
theorem wOk_row {L : LD} (hL : LOk L) {ms d : Nat} {w : WH} (h : wOk w) (hd : d < 8) : ∀ k, k ≤ 6 → wOk (pRow L ms d w k)
  | 0, _ => h
  | k + 1, hk => wOk_go hL (wOk_row hL h hd k (by omega)) hd (by omega) (by omega)
theorem wOk_rn {L : LD} {d : Nat} {w : WH} (h : wOk w) (hd : d < 8) : wOk (pRn L d w) := by
  unfold pRn
  split
  · rename_i hc
    exact ⟨tOk_cm h.1 (by omega) (by omega) ((h.1 d 1 0 hd (by omega) (by omega)).resolve_left hc.1), h.2⟩
  · exact h
theorem wOk_st {L : LD} {f : Nat} : wOk (pSt L f) := by
  have h0 : tOk (fun _ => 99) := fun _ _ _ _ _ _ => Or.inl rfl
  refine ⟨?_, Or.inl rfl, Or.inl rfl⟩
  show tOk (if pGv L 0 f = true then pCm (fun _ => 99) f 0 0 0 else fun _ => 99)
  split
  · exact tOk_cm h0 (by omega) (by omega) (by omega)
  · exact h0
theorem wOk_days {L : LD} (hL : LOk L) {ms f : Nat} {w : WH} (h : wOk w) : ∀ n, f + n ≤ 8 → wOk (pDays L ms f w n)
  | 0, _ => h
  | n + 1, hn => wOk_row hL (wOk_rn (wOk_days hL h n (by omega)) (by omega)) (by omega) 6 (Nat.le_refl 6)
theorem wOk_wh {L : LD} (hL : LOk L) {ms f : Nat} (hf : f < 8) : wOk (pWh L ms f) := wOk_days hL wOk_st _ (by omega)
