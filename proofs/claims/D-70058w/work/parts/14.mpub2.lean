/-! PLAIN LAW, 3, and the reference: what more is asked -/
set_option maxRecDepth 100000
def pcN (L : LD) (d x : Nat) : Nat → Nat
  | 0 => 99
  | k + 1 => if (pcN L d x k = 99 ∨ k % 2 + k / 2 < pcN L d x k) ∧ pBy (l12 L (if k % 2 = 1 then 255 else L 7 1) (if k / 2 = 1 then 255 else L 7 2)) 99 d x = true then k % 2 + k / 2 else pcN L d x k
theorem bSet_t (f : Nat → Bool) (n : Nat) (h : f n = true) : bSet f n ||| (1 <<< (nI n &&& 31)) = bSet f (n + 1) := by rw [bSet, if_pos h]
theorem bSet_n (f : Nat → Bool) (n : Nat) (h : f n = false) : bSet f n ||| 0 = bSet f (n + 1) := by rw [bSet, if_neg (by simp [h])]
def aPeace (L : LD) (d x : Int32) : Int32 := if mWi d 0 7 && mWi x 0 7 then (if L 5 0 = 0 then -3 else eN (pcN L d.toNatClampNeg x.toNatClampNeg 4)) else -2
def dN (v : Int32) : Nat := if v = -9 then 99 else v.toNatClampNeg
def okRead (L : LD) (d v : Int32) : Bool := mWi d 0 7 && (decide (v = -9) || mWi v 0 7)
def aRead (L : LD) (d v : Int32) : Int32 := if okRead L d v then (if L 5 0 = 0 then -3 else if L 26 0 = 8 then -4 else nI (L 26 0)) else -2
def sRead (L : LD) (d v : Int32) : LD := if okRead L d v && decide (L 5 0 ≠ 0) && decide (L 26 0 ≠ 8) then lUp (lUp (lUp L 27 (L 26 0) d.toNatClampNeg) 28 (L 26 0) (dN v)) 26 0 (L 26 0 + 1) else L
def aBack (L : LD) (k : Int32) : Int32 := if mWi k 0 (nI (L 26 0)) then nI (L 26 0 - k.toNatClampNeg) else -2
def sBack (L : LD) (k : Int32) : LD := if mWi k 0 (nI (L 26 0)) then lUp L 26 0 (L 26 0 - k.toNatClampNeg) else L
def aSnows (L : LD) (d : Int32) : Int32 := if mWi d 0 7 then (if L 5 0 = 0 then -3 else bSet (fun v => pSo (lUp L 6 d.toNatClampNeg v) 99 (L 26 0)) 10) else -2
def aHigh (L : LD) (p : Int32) : Int32 := if pvP L p then bSet (fun v => pSo (lUp L 12 p.toNatClampNeg v) 99 (L 26 0)) 10 else -1
def aKind (L : LD) (p : Int32) : Int32 := if pvP L p then bSet (fun v => pSo (lUp L 8 p.toNatClampNeg v) 99 (L 26 0)) 3 else -1
def cnt (f : Nat → Bool) : Nat → Nat
  | 0 => 0
  | n + 1 => if f n then cnt f n + 1 else cnt f n
/-- the least below n for which f; -9: none -/
def lsN (f : Nat → Bool) : Nat → Int32
  | 0 => -9
  | n + 1 => if f n then (if cnt f n = 0 then nI n else lsN f n) else lsN f n
theorem cnt_le (f : Nat → Bool) : ∀ n, cnt f n ≤ n
  | 0 => Nat.le_refl _
  | n + 1 => by have := cnt_le f n; unfold cnt; split <;> omega
theorem cnt_t (f : Nat → Bool) (n : Nat) (h : f n = true) : cnt f (n + 1) = cnt f n + 1 := by rw [cnt, if_pos h]
theorem cnt_n (f : Nat → Bool) (n : Nat) (h : f n = false) : cnt f (n + 1) = cnt f n := by rw [cnt, if_neg (by simp [h])]
theorem lsN_t (f : Nat → Bool) (n : Nat) (h : f n = true) (h2 : cnt f n = 0) : lsN f (n + 1) = nI n := by rw [lsN, if_pos h, if_pos h2]
theorem lsN_u (f : Nat → Bool) (n : Nat) (h : f n = true) (h2 : ¬ cnt f n = 0) : lsN f (n + 1) = lsN f n := by rw [lsN, if_pos h, if_neg h2]
theorem lsN_n (f : Nat → Bool) (n : Nat) (h : f n = false) : lsN f (n + 1) = lsN f n := by rw [lsN, if_neg (by simp [h])]
def aGave (L : LD) (v w : Int32) : Int32 := if mWi v 0 2 then (if mWi w 0 1 then (if L 5 0 = 0 then -3 else if w = 0 then nI (cnt (fun s => pSo (lUp L 7 v.toNatClampNeg s) 99 (L 26 0)) 256) else lsN (fun s => pSo (lUp L 7 v.toNatClampNeg s) 99 (L 26 0)) 256) else -2) else -1
def gAll (L : LD) (d : Nat) : Bool := pGv L 0 d && (pGv L 1 d && pGv L 2 d)
def aMany (L : LD) (w : Int32) : Int32 := if w = 0 then nI (L 5 0) else if w = 1 then nI (cnt (gAll L) 8) else if w = 2 then nI (L 26 0) else -2
def aTell (L : LD) (p : Int32) : Int32 := if pvP L p then (if L 8 p.toNatClampNeg = 1 then nI (L 12 p.toNatClampNeg + 100) else if L 8 p.toNatClampNeg = 2 then nI (2 * L 12 p.toNatClampNeg + 100) else nI (L 12 p.toNatClampNeg)) else -1
def tTell (L : LD) (p t : Int32) : Int32 := if pvP L p then (if L 8 p.toNatClampNeg = 1 then 31 * (31 * t + 2) + 1 else if L 8 p.toNatClampNeg = 2 then 31 * (31 * (31 * (31 * t + 3) + 2) + 1) + 1 else 31 * t + 1) else t
def aMark (L : LD) (p : Int32) : Int32 := if pvP L p then (if L 8 p.toNatClampNeg = 2 then 80 else p) else -1
def tMark (L : LD) (p t : Int32) : Int32 := if pvP L p then (if L 8 p.toNatClampNeg = 2 then 31 * t + 5 else 31 * t + 4) else t
def aAs (L : LD) (p k : Int32) : Int32 := if pvP L p then (if mWi k 0 2 then (if L 8 p.toNatClampNeg < k.toNatClampNeg then -12 else 1) else -2) else -1
def fAs (L : LD) (p k : Int32) : Int32 := if pvP L p && mWi k 0 2 && decide (L 8 p.toNatClampNeg < k.toNatClampNeg) then 2 else 0

/-- but for place j of the array 6, S1 is as S -/
def mC_6 (j : Nat) (S S1 : MS) : Prop := mKeep S (S1.1, va_up S1.2 6 (S.2 6)) ∧ ∀ i, i ≠ j → S1.2 6 i = S.2 6 i
theorem mC_6.rf {j : Nat} {S : MS} : mC_6 j S S := ⟨by exact ⟨rfl, rfl, rfl, rfl, rfl, rfl, rfl, rfl, rfl, rfl, rfl, rfl, rfl, rfl, rfl, rfl, rfl⟩, fun _ _ => rfl⟩
theorem mC_6.st {j : Nat} {S S1 : MS} (h : mC_6 j S S1) (a : Int32) : mC_6 j S (S1.1, va_up S1.2 6 (upd (S1.2 6) j a)) := by
  refine ⟨h.1, fun i h1 => ?_⟩
  show upd (S1.2 6) j a i = S.2 6 i
  unfold upd; rw [if_neg h1]; exact h.2 i h1
theorem mC_6.keep {j : Nat} {S S1 S2 : MS} (h : mC_6 j S S1) (k : mKeep S1 S2) : mC_6 j S S2 := by
  obtain ⟨b1, b2, b3, b4, b5, b6, b7, b8, b9, b10, b11, b12, b13, b14, b15, b16, b17⟩ := k
  refine ⟨h.1.tr ⟨b1, b2, b3, b4, b5, b6, b7, b8, rfl, b10, b11, b12, b13, b14, b15, b16, b17⟩, fun i h1 => by rw [b9]; exact h.2 i h1⟩
theorem mC_6.ld {j : Nat} {S S1 : MS} {L : LD} {ms x : Nat} (h : mC_6 j S S1) (hS : mLd S L ms) : mLd (S1.1, va_up S1.2 6 (upd (S1.2 6) j (nI x))) (lUp L 6 j x) ms := by
  have h0 := mLd_keep hS h.1
  refine ⟨h0.1, h0.2.1, h0.2.2.1, fun v hv => ?_, h0.2.2.2.2⟩
  show upd (S1.2 6) j (nI x) v = nI (va_up (L 6) j x v)
  have h9 := hS.2.2.2.1 v hv
  unfold upd va_up; split
  · rfl
  · rename_i n1; exact (h.2 v n1).trans h9
theorem mC_6.done {j : Nat} {S S1 : MS} {L : LD} {ms : Nat} (h : mC_6 j S S1) (hS : mLd S L ms) (hv : j < 8) : mKeep S (S1.1, va_up S1.2 6 (upd (S1.2 6) j (nI (L 6 j)))) := by
  have e : upd (S1.2 6) j (nI (L 6 j)) = S.2 6 := by
    funext i; unfold upd; split
    · rename_i e; rw [e]; exact (hS.2.2.2.1 j hv).symm
    · rename_i n1; exact h.2 i n1
  rw [e]; exact h.1
/-- but for place j of the array 7, S1 is as S -/
def mC_7 (j : Nat) (S S1 : MS) : Prop := mKeep S (S1.1, va_up S1.2 7 (S.2 7)) ∧ ∀ i, i ≠ j → S1.2 7 i = S.2 7 i
theorem mC_7.rf {j : Nat} {S : MS} : mC_7 j S S := ⟨by exact ⟨rfl, rfl, rfl, rfl, rfl, rfl, rfl, rfl, rfl, rfl, rfl, rfl, rfl, rfl, rfl, rfl, rfl⟩, fun _ _ => rfl⟩
theorem mC_7.st {j : Nat} {S S1 : MS} (h : mC_7 j S S1) (a : Int32) : mC_7 j S (S1.1, va_up S1.2 7 (upd (S1.2 7) j a)) := by
  refine ⟨h.1, fun i h1 => ?_⟩
  show upd (S1.2 7) j a i = S.2 7 i
  unfold upd; rw [if_neg h1]; exact h.2 i h1
theorem mC_7.keep {j : Nat} {S S1 S2 : MS} (h : mC_7 j S S1) (k : mKeep S1 S2) : mC_7 j S S2 := by
  obtain ⟨b1, b2, b3, b4, b5, b6, b7, b8, b9, b10, b11, b12, b13, b14, b15, b16, b17⟩ := k
  refine ⟨h.1.tr ⟨b1, b2, b3, b4, b5, b6, b7, b8, b9, rfl, b11, b12, b13, b14, b15, b16, b17⟩, fun i h1 => by rw [b10]; exact h.2 i h1⟩
theorem mC_7.ld {j : Nat} {S S1 : MS} {L : LD} {ms x : Nat} (h : mC_7 j S S1) (hS : mLd S L ms) : mLd (S1.1, va_up S1.2 7 (upd (S1.2 7) j (nI x))) (lUp L 7 j x) ms := by
  have h0 := mLd_keep hS h.1
  refine ⟨h0.1, h0.2.1, h0.2.2.1, h0.2.2.2.1, fun v hv => ?_⟩
  show upd (S1.2 7) j (nI x) v = nI (va_up (L 7) j x v)
  have h9 := hS.2.2.2.2 v hv
  unfold upd va_up; split
  · rfl
  · rename_i n1; exact (h.2 v n1).trans h9
theorem mC_7.done {j : Nat} {S S1 : MS} {L : LD} {ms : Nat} (h : mC_7 j S S1) (hS : mLd S L ms) (hv : j < 3) : mKeep S (S1.1, va_up S1.2 7 (upd (S1.2 7) j (nI (L 7 j)))) := by
  have e : upd (S1.2 7) j (nI (L 7 j)) = S.2 7 := by
    funext i; unfold upd; split
    · rename_i e; rw [e]; exact (hS.2.2.2.2 j hv).symm
    · rename_i n1; exact h.2 i n1
  rw [e]; exact h.1
/-- but for place j of the array 8, S1 is as S -/
def mC_8 (j : Nat) (S S1 : MS) : Prop := mKeep S (S1.1, va_up S1.2 8 (S.2 8)) ∧ ∀ i, i ≠ j → S1.2 8 i = S.2 8 i
theorem mC_8.rf {j : Nat} {S : MS} : mC_8 j S S := ⟨by exact ⟨rfl, rfl, rfl, rfl, rfl, rfl, rfl, rfl, rfl, rfl, rfl, rfl, rfl, rfl, rfl, rfl, rfl⟩, fun _ _ => rfl⟩
theorem mC_8.st {j : Nat} {S S1 : MS} (h : mC_8 j S S1) (a : Int32) : mC_8 j S (S1.1, va_up S1.2 8 (upd (S1.2 8) j a)) := by
  refine ⟨h.1, fun i h1 => ?_⟩
  show upd (S1.2 8) j a i = S.2 8 i
  unfold upd; rw [if_neg h1]; exact h.2 i h1
theorem mC_8.keep {j : Nat} {S S1 S2 : MS} (h : mC_8 j S S1) (k : mKeep S1 S2) : mC_8 j S S2 := by
  obtain ⟨b1, b2, b3, b4, b5, b6, b7, b8, b9, b10, b11, b12, b13, b14, b15, b16, b17⟩ := k
  refine ⟨h.1.tr ⟨b1, b2, b3, b4, b5, b6, b7, b8, b9, b10, rfl, b12, b13, b14, b15, b16, b17⟩, fun i h1 => by rw [b11]; exact h.2 i h1⟩
theorem mC_8.ld {j : Nat} {S S1 : MS} {L : LD} {ms x : Nat} (h : mC_8 j S S1) (hS : mLd S L ms) : mLd (S1.1, va_up S1.2 8 (upd (S1.2 8) j (nI x))) (lUp L 8 j x) ms := by
  have h0 := mLd_keep hS h.1
  refine ⟨h0.1, h0.2.1, fun v hv => ⟨?_, (h0.2.2.1 v hv).2⟩, h0.2.2.2⟩
  show upd (S1.2 8) j (nI x) v = nI (va_up (L 8) j x v)
  have h9 := (hS.2.2.1 v hv).1
  unfold upd va_up; split
  · rfl
  · rename_i n1; exact (h.2 v n1).trans h9
theorem mC_8.done {j : Nat} {S S1 : MS} {L : LD} {ms : Nat} (h : mC_8 j S S1) (hS : mLd S L ms) (hv : j < L 5 0) : mKeep S (S1.1, va_up S1.2 8 (upd (S1.2 8) j (nI (L 8 j)))) := by
  have e : upd (S1.2 8) j (nI (L 8 j)) = S.2 8 := by
    funext i; unfold upd; split
    · rename_i e; rw [e]; exact ((hS.2.2.1 j hv).1).symm
    · rename_i n1; exact h.2 i n1
  rw [e]; exact h.1
/-- but for place j of the array 12, S1 is as S -/
def mC_12 (j : Nat) (S S1 : MS) : Prop := mKeep S (S1.1, va_up S1.2 12 (S.2 12)) ∧ ∀ i, i ≠ j → S1.2 12 i = S.2 12 i
theorem mC_12.rf {j : Nat} {S : MS} : mC_12 j S S := ⟨by exact ⟨rfl, rfl, rfl, rfl, rfl, rfl, rfl, rfl, rfl, rfl, rfl, rfl, rfl, rfl, rfl, rfl, rfl⟩, fun _ _ => rfl⟩
theorem mC_12.st {j : Nat} {S S1 : MS} (h : mC_12 j S S1) (a : Int32) : mC_12 j S (S1.1, va_up S1.2 12 (upd (S1.2 12) j a)) := by
  refine ⟨h.1, fun i h1 => ?_⟩
  show upd (S1.2 12) j a i = S.2 12 i
  unfold upd; rw [if_neg h1]; exact h.2 i h1
theorem mC_12.keep {j : Nat} {S S1 S2 : MS} (h : mC_12 j S S1) (k : mKeep S1 S2) : mC_12 j S S2 := by
  obtain ⟨b1, b2, b3, b4, b5, b6, b7, b8, b9, b10, b11, b12, b13, b14, b15, b16, b17⟩ := k
  refine ⟨h.1.tr ⟨b1, b2, b3, b4, b5, b6, b7, b8, b9, b10, b11, b12, b13, b14, rfl, b16, b17⟩, fun i h1 => by rw [b15]; exact h.2 i h1⟩
theorem mC_12.ld {j : Nat} {S S1 : MS} {L : LD} {ms x : Nat} (h : mC_12 j S S1) (hS : mLd S L ms) : mLd (S1.1, va_up S1.2 12 (upd (S1.2 12) j (nI x))) (lUp L 12 j x) ms := by
  have h0 := mLd_keep hS h.1
  refine ⟨h0.1, h0.2.1, fun v hv => ⟨(h0.2.2.1 v hv).1, (h0.2.2.1 v hv).2.1, (h0.2.2.1 v hv).2.2.1, (h0.2.2.1 v hv).2.2.2.1, ?_⟩, h0.2.2.2⟩
  show upd (S1.2 12) j (nI x) v = nI (va_up (L 12) j x v)
  have h9 := (hS.2.2.1 v hv).2.2.2.2
  unfold upd va_up; split
  · rfl
  · rename_i n1; exact (h.2 v n1).trans h9
theorem mC_12.done {j : Nat} {S S1 : MS} {L : LD} {ms : Nat} (h : mC_12 j S S1) (hS : mLd S L ms) (hv : j < L 5 0) : mKeep S (S1.1, va_up S1.2 12 (upd (S1.2 12) j (nI (L 12 j)))) := by
  have e : upd (S1.2 12) j (nI (L 12 j)) = S.2 12 := by
    funext i; unfold upd; split
    · rename_i e; rw [e]; exact ((hS.2.2.1 j hv).2.2.2.2).symm
    · rename_i n1; exact h.2 i n1
  rw [e]; exact h.1
theorem LOk.up8 {L : LD} (h : LOk L) {d x : Nat} (hx : x ≤ 2) : LOk (lUp L 8 d x) := by
  refine ⟨h.1, fun j hj => ⟨?_, (h.2.1 j hj).2⟩, h.2.2⟩
  show va_up (L 8) d x j ≤ 2
  unfold va_up; split
  · exact hx
  · exact (h.2.1 j hj).1
theorem LOk.up12 {L : LD} (h : LOk L) {d x : Nat} (hx : x ≤ 9) : LOk (lUp L 12 d x) := by
  refine ⟨h.1, fun j hj => ⟨(h.2.1 j hj).1, (h.2.1 j hj).2.1, (h.2.1 j hj).2.2.1, (h.2.1 j hj).2.2.2.1, (h.2.1 j hj).2.2.2.2.1, ?_⟩, h.2.2⟩
  show va_up (L 12) d x j ≤ 9
  unfold va_up; split
  · exact hx
  · exact (h.2.1 j hj).2.2.2.2.2
theorem pc_no {L : LD} {d x k : Nat} (h : ¬ ((pcN L d x k = 99 ∨ k % 2 + k / 2 < pcN L d x k) ∧ pBy (l12 L (if k % 2 = 1 then 255 else L 7 1) (if k / 2 = 1 then 255 else L 7 2)) 99 d x = true)) : pcN L d x (k + 1) = pcN L d x k := by rw [pcN, if_neg h]
theorem pc_yes {L : LD} {d x k : Nat} (h : (pcN L d x k = 99 ∨ k % 2 + k / 2 < pcN L d x k) ∧ pBy (l12 L (if k % 2 = 1 then 255 else L 7 1) (if k / 2 = 1 then 255 else L 7 2)) 99 d x = true) : pcN L d x (k + 1) = k % 2 + k / 2 := by rw [pcN, if_pos h]
theorem pcN_le (L : LD) (a b : Nat) : ∀ k, pcN L a b k = 99 ∨ pcN L a b k ≤ k
  | 0 => Or.inl rfl
  | k + 1 => by
    have := pcN_le L a b k
    rcases Classical.em ((pcN L a b k = 99 ∨ k % 2 + k / 2 < pcN L a b k) ∧ pBy (l12 L (if k % 2 = 1 then 255 else L 7 1) (if k / 2 = 1 then 255 else L 7 2)) 99 a b = true) with h | h
    · rw [pc_yes h]; omega
    · rw [pc_no h]; omega
theorem hd_mt_peace : yX1_peace.cls = RX1 ∧ yX1_peace.cls ≠ "java/lang/invoke/MethodHandle" ∧ yX1_peace.cls ≠ "java/lang/invoke/VarHandle" ∧ (parseMethodDescriptor yX1_peace.desc).map (fun d => d.parameters.length) = some 2 := by decide +kernel
set_option maxHeartbeats 4000000 in
theorem mt_peace (l : Launch) (G : gG) (o : Nat) (q : Nat → Nat) (S : MS) (x : Int32) (v : Int32) (L : LD) (hL : LOk L) (hS : mLd S L 99) : gMi l yX1_peace cX1_peace 8 (some .int) ({ frames := 6, cells := 0, slots := 0, locals := 140 } : Room) G [.ref o, .int (x), .int (v)] (mW G o q S) (fun S' => mW G o q S') (fun ρ S' => aPeace L x v = ρ ∧ mKeep S S') := by
  refine gMi_of (by decide) (Nat.le_of_ble_eq_true rfl) ?_
  intro p e s m below meth c ls A F I hl
  have hl : lv_has ls 8 [(0, .ref (o)), (1, .int (x)), (2, .int (v))] := hl
  have hL5 := hL.1
  have hS0 := hS
  have hms : 99 < 100 := by decide
  have h71 := hL.2.2.2 1 (by omega)
  have h72 := hL.2.2.2 2 (by omega)
  have pcle : ∀ a b k, pcN L a b k = 99 ∨ pcN L a b k ≤ k := fun a b k => pcN_le L a b k
  refine lv_iload_n F.x F.b dX1_peace_0 rfl (lv_at hl 1 rfl) ?_
  refine g_calli I (g_runS (n := 1) (As := [.int (x)]) (rest := []) F I (mt_isDay l G _ (x)   _) q1304 q1305 q56 q1306 hd_mt_isDay.2 ⟨Nat.le_of_ble_eq_true rfl, Nat.le_of_ble_eq_true rfl⟩ rfl rfl hl.1 rfl (lv_room (Nat.le_of_ble_eq_true rfl)) dX1_peace_1 ⟨by first | exact Nat.le_refl _ | decide, by first | exact Nat.le_refl _ | decide⟩) (fun r u_ H locs hp I => ?_)
  obtain rfl := hp
  refine z_eq (tgt := 14) F dX1_peace_4 (by decide) (fun c_4 => ?_) (fun c_4 => ?_)
  · refine lv_bipush (v := (-2)) F.x F.b dX1_peace_14 (by decide) ?_
    exact g_iret (u := S) F I (by exact ⟨by simp [aPeace, *], mKeep.rf⟩) dX1_peace_16 (by first | exact Nat.le_refl _ | decide) (by first | exact Nat.le_refl _ | decide)
  · obtain ⟨j, hj, rfl⟩ := wi_n (m := 7) (by decide) c_4
    have tj : (nI j).toNatClampNeg = j := nI_clamp (by omega)
    refine lv_iload_n F.x F.b dX1_peace_7 rfl (lv_at hl 2 rfl) ?_
    refine g_calli I (g_runS (n := 1) (As := [.int (v)]) (rest := []) F I (mt_isDay l G _ (v)   _) q1304 q1305 q56 q1306 hd_mt_isDay.2 ⟨Nat.le_of_ble_eq_true rfl, Nat.le_of_ble_eq_true rfl⟩ rfl rfl hl.1 rfl (lv_room (Nat.le_of_ble_eq_true rfl)) dX1_peace_8 ⟨by first | exact Nat.le_refl _ | decide, by first | exact Nat.le_refl _ | decide⟩) (fun r u_ H locs hp I => ?_)
    obtain rfl := hp
    refine z_ne (tgt := 17) F dX1_peace_11 (by decide) (fun c_11 => ?_) (fun c_11 => ?_)
    · obtain ⟨i, hi, rfl⟩ := wi_n (m := 7) (by decide) c_11
      have ti : (nI i).toNatClampNeg = i := nI_clamp (by omega)
      refine lv_aload_n F.x F.b dX1_peace_17 rfl (lv_at hl 0 rfl) ?_
      refine m_get (v := nI (L 5 0)) F I 5 (by decide) hS.1 q1160 dX1_peace_18 ?_
      refine n_if_ne (tgt := 27) F (by omega) dX1_peace_21 (by decide) (fun c_21 => ?_) (fun c_21 => ?_)
      · refine lv_aload_n F.x F.b dX1_peace_27 rfl (lv_at hl 0 rfl) ?_
        refine m_geta F I 7 (by decide) q1162 dX1_peace_28 ?_
        refine lv_iconst (v := nI (1)) F.x F.b dX1_peace_31 (by decide) ?_
        refine m_ld (v := ((S.2 7) (1))) F I 7 (by decide) (show 1 < 3 by omega) rfl dX1_peace_32 ?_
        refine W.val (y := nI (L 7 1)) (by exact hS.2.2.2.2 1 (by omega)) ?_
        refine lv_istore_n (lv' := [(3, .int (nI (L 7 1))), (0, .ref (o)), (1, .int (nI (j))), (2, .int (nI (i)))]) F.x F.b dX1_peace_33 rfl hl (by decide) rfl (fun ls hl => ?_)
        refine lv_aload_n F.x F.b dX1_peace_34 rfl (lv_at hl 1 rfl) ?_
        refine m_geta F I 7 (by decide) q1162 dX1_peace_35 ?_
        refine lv_iconst (v := nI (2)) F.x F.b dX1_peace_38 (by decide) ?_
        refine m_ld (v := ((S.2 7) (2))) F I 7 (by decide) (show 2 < 3 by omega) rfl dX1_peace_39 ?_
        refine W.val (y := nI (L 7 2)) (by exact hS.2.2.2.2 2 (by omega)) ?_
        refine lv_istore (lv' := [(4, .int (nI (L 7 2))), (3, .int (nI (L 7 1))), (0, .ref (o)), (1, .int (nI (j))), (2, .int (nI (i)))]) F.x F.b dX1_peace_40 hl (by decide) rfl (fun ls hl => ?_)
        refine lv_bipush (v := (-9)) F.x F.b dX1_peace_42 (by decide) ?_
        refine lv_istore (lv' := [(5, .int ((-9))), (4, .int (nI (L 7 2))), (3, .int (nI (L 7 1))), (0, .ref (o)), (1, .int (nI (j))), (2, .int (nI (i)))]) F.x F.b dX1_peace_44 hl (by decide) rfl (fun ls hl => ?_)
        refine lv_iconst (v := nI (0)) F.x F.b dX1_peace_46 (by decide) ?_
        refine lv_istore (lv' := [(6, .int (nI (0))), (5, .int ((-9))), (4, .int (nI (L 7 2))), (3, .int (nI (L 7 1))), (0, .ref (o)), (1, .int (nI (j))), (2, .int (nI (i)))]) F.x F.b dX1_peace_47 hl (by decide) rfl (fun ls hl => ?_)
        refine W_ind 49 (fun _ => []) (fun n_J => n_J) (fun n_J H locs ls => ∃ (k : Nat) (S1 : MS), n_J = 4 - k ∧ (k ≤ 4) ∧ (mK7 S S1) ∧  Iw G A s (mW G o q S1) H locs ∧ lv_has ls 8 [(0, .ref (o)), (1, .int (nI (j))), (2, .int (nI (i))), (3, .int (nI (L 7 1))), (4, .int (nI (L 7 2))), (5, .int (eN (pcN L j i k))), (6, .int (nI (k)))]) ?_ _ ⟨0, S, rfl, by omega, by exact mK7.rf, I, lv_sub hl [4, 5, 6, 3, 2, 1, 0] rfl⟩
        intro n49 H locs ls hJ ih49
        obtain ⟨k, S1, hn49, hk, h7, I, hl⟩ := hJ
        refine lv_iload F.x F.b dX1_peace_49 (lv_at hl 6 rfl) ?_
        refine lv_iconst (v := nI (4)) F.x F.b dX1_peace_51 (by decide) ?_
        refine n_icmp_ge (tgt := 142) F (by omega) (by omega) dX1_peace_52 (by decide) (fun c_52 => ?_) (fun c_52 => ?_)
        · refine lv_aload_n F.x F.b dX1_peace_142 rfl (lv_at hl 0 rfl) ?_
          refine m_geta F I 7 (by decide) q1162 dX1_peace_143 ?_
          refine lv_iconst (v := nI (1)) F.x F.b dX1_peace_146 (by decide) ?_
          refine lv_iload_n F.x F.b dX1_peace_147 rfl (lv_at hl 3 rfl) ?_
          refine m_st F I 7 (by decide) (show 1 < 3 by omega) dX1_peace_148 (fun H locs (I : Iw G A s (mW G o q (S1.1, va_up S1.2 7 (upd (S1.2 7) (1) (nI (L 7 1))))) H locs) => ?_)
          refine lv_aload_n F.x F.b dX1_peace_149 rfl (lv_at hl 0 rfl) ?_
          refine m_geta F I 7 (by decide) q1162 dX1_peace_150 ?_
          refine lv_iconst (v := nI (2)) F.x F.b dX1_peace_153 (by decide) ?_
          refine lv_iload F.x F.b dX1_peace_154 (lv_at hl 4 rfl) ?_
          refine m_st F I 7 (by decide) (show 2 < 3 by omega) dX1_peace_156 (fun H locs (I : Iw G A s (mW G o q (S1.1, va_up (va_up S1.2 7 (upd (S1.2 7) (1) (nI (L 7 1)))) 7 (upd (upd (S1.2 7) (1) (nI (L 7 1))) (2) (nI (L 7 2))))) H locs) => ?_)
          refine lv_iload F.x F.b dX1_peace_157 (lv_at hl 5 rfl) ?_
          exact g_iret (u := (S1.1, va_up (va_up S1.2 7 (upd (S1.2 7) (1) (nI (L 7 1)))) 7 (upd (upd (S1.2 7) (1) (nI (L 7 1))) (2) (nI (L 7 2))))) F I (by exact ⟨by rw [aPeace, if_pos (by simp [*]), if_neg c_21, tj, ti, show k = 4 by omega], h7.done hS⟩) dX1_peace_159 (by first | exact Nat.le_refl _ | decide) (by first | exact Nat.le_refl _ | decide)
        · refine lv_iload F.x F.b dX1_peace_55 (lv_at hl 6 rfl) ?_
          refine lv_iconst (v := nI (2)) F.x F.b dX1_peace_57 (by decide) ?_
          refine n_irem F dX1_peace_58 (by omega) (by omega) (by omega) ?_
          refine lv_iload F.x F.b dX1_peace_59 (lv_at hl 6 rfl) ?_
          refine lv_iconst (v := nI (2)) F.x F.b dX1_peace_61 (by decide) ?_
          refine n_idiv F dX1_peace_62 (by omega) (by omega) (by omega) ?_
          refine n_iadd F dX1_peace_63 ?_
          refine lv_istore (lv' := [(7, .int (nI (((k % 2) + (k / 2))))), (0, .ref (o)), (1, .int (nI (j))), (2, .int (nI (i))), (3, .int (nI (L 7 1))), (4, .int (nI (L 7 2))), (5, .int (eN (pcN L j i k))), (6, .int (nI (k)))]) F.x F.b dX1_peace_64 hl (by decide) rfl (fun ls hl => ?_)
          refine W_cut (α := Nat) (cells := 0) (slots := 0) 109 (fun _ => []) (fun _ H locs ls => ∃ (S2 : MS), (mK7 S S2) ∧ (mLd S2 (l12 L (if k % 2 = 1 then 255 else L 7 1) (if k / 2 = 1 then 255 else L 7 2)) 99) ∧ Iw G A s (mW G o q S2) H locs ∧ lv_has ls 8 [(0, .ref (o)), (1, .int (nI (j))), (2, .int (nI (i))), (3, .int (nI (L 7 1))), (4, .int (nI (L 7 2))), (5, .int (eN (pcN L j i k))), (6, .int (nI (k))), (7, .int (nI ((k % 2 + k / 2))))]) (fun J109 => ?_) ?_
          · refine lv_aload_n F.x F.b dX1_peace_66 rfl (lv_at hl 1 rfl) ?_
            refine m_geta F I 7 (by decide) q1162 dX1_peace_67 ?_
            refine lv_iconst (v := nI (1)) F.x F.b dX1_peace_70 (by decide) ?_
            refine lv_iload F.x F.b dX1_peace_71 (lv_at hl 7 rfl) ?_
            refine lv_iconst (v := nI (2)) F.x F.b dX1_peace_73 (by decide) ?_
            refine n_irem F dX1_peace_74 (by omega) (by omega) (by omega) ?_
            refine lv_iconst (v := nI (1)) F.x F.b dX1_peace_75 (by decide) ?_
            refine n_icmp_ne (tgt := 85) F (by omega) (by omega) dX1_peace_76 (by decide) (fun c_76 => ?_) (fun c_76 => ?_)
            · refine lv_iload_n F.x F.b dX1_peace_85 rfl (lv_at hl 4 rfl) ?_
              refine m_st F I 7 (by decide) (show 1 < 3 by omega) dX1_peace_86 (fun H locs (I : Iw G A s (mW G o q (S1.1, va_up S1.2 7 (upd (S1.2 7) (1) (nI (L 7 1))))) H locs) => ?_)
              refine lv_aload_n F.x F.b dX1_peace_87 rfl (lv_at hl 1 rfl) ?_
              refine m_geta F I 7 (by decide) q1162 dX1_peace_88 ?_
              refine lv_iconst (v := nI (2)) F.x F.b dX1_peace_91 (by decide) ?_
              refine lv_iload F.x F.b dX1_peace_92 (lv_at hl 7 rfl) ?_
              refine lv_iconst (v := nI (2)) F.x F.b dX1_peace_94 (by decide) ?_
              refine n_idiv F dX1_peace_95 (by omega) (by omega) (by omega) ?_
              refine lv_iconst (v := nI (1)) F.x F.b dX1_peace_96 (by decide) ?_
              refine n_icmp_ne (tgt := 106) F (by omega) (by omega) dX1_peace_97 (by decide) (fun c_97 => ?_) (fun c_97 => ?_)
              · refine lv_iload F.x F.b dX1_peace_106 (lv_at hl 5 rfl) ?_
                refine m_st F I 7 (by decide) (show 2 < 3 by omega) dX1_peace_108 (fun H locs (I : Iw G A s (mW G o q (S1.1, va_up (va_up S1.2 7 (upd (S1.2 7) (1) (nI (L 7 1)))) 7 (upd (upd (S1.2 7) (1) (nI (L 7 1))) (2) (nI (L 7 2))))) H locs) => ?_)
                exact J109 0 _ _ _ ⟨(S1.1, va_up (va_up S1.2 7 (upd (S1.2 7) (1) (nI (L 7 1)))) 7 (upd (upd (S1.2 7) (1) (nI (L 7 1))) (2) (nI (L 7 2)))), by exact h7.st _ _, by first | (rw [if_pos c_76, if_pos c_97]; exact h7.ld hS) | (rw [if_pos c_76, if_neg c_97]; exact h7.ld hS) | (rw [if_neg c_76, if_pos c_97]; exact h7.ld hS) | (rw [if_neg c_76, if_neg c_97]; exact h7.ld hS), I, lv_sub hl [1, 2, 3, 4, 5, 6, 7, 0] rfl⟩
              · refine lv_sipush (v := nI (255)) F.x F.b dX1_peace_100 (by decide) ?_
                refine lv_goto (tgt := 108) F.x F.b dX1_peace_103 (by decide) ?_
                refine m_st F I 7 (by decide) (show 2 < 3 by omega) dX1_peace_108 (fun H locs (I : Iw G A s (mW G o q (S1.1, va_up (va_up S1.2 7 (upd (S1.2 7) (1) (nI (L 7 1)))) 7 (upd (upd (S1.2 7) (1) (nI (L 7 1))) (2) (nI (255))))) H locs) => ?_)
                exact J109 0 _ _ _ ⟨(S1.1, va_up (va_up S1.2 7 (upd (S1.2 7) (1) (nI (L 7 1)))) 7 (upd (upd (S1.2 7) (1) (nI (L 7 1))) (2) (nI (255)))), by exact h7.st _ _, by first | (rw [if_pos c_76, if_pos c_97]; exact h7.ld hS) | (rw [if_pos c_76, if_neg c_97]; exact h7.ld hS) | (rw [if_neg c_76, if_pos c_97]; exact h7.ld hS) | (rw [if_neg c_76, if_neg c_97]; exact h7.ld hS), I, lv_sub hl [1, 2, 3, 4, 5, 6, 7, 0] rfl⟩
            · refine lv_sipush (v := nI (255)) F.x F.b dX1_peace_79 (by decide) ?_
              refine lv_goto (tgt := 86) F.x F.b dX1_peace_82 (by decide) ?_
              refine m_st F I 7 (by decide) (show 1 < 3 by omega) dX1_peace_86 (fun H locs (I : Iw G A s (mW G o q (S1.1, va_up S1.2 7 (upd (S1.2 7) (1) (nI (255))))) H locs) => ?_)
              refine lv_aload_n F.x F.b dX1_peace_87 rfl (lv_at hl 1 rfl) ?_
              refine m_geta F I 7 (by decide) q1162 dX1_peace_88 ?_
              refine lv_iconst (v := nI (2)) F.x F.b dX1_peace_91 (by decide) ?_
              refine lv_iload F.x F.b dX1_peace_92 (lv_at hl 7 rfl) ?_
              refine lv_iconst (v := nI (2)) F.x F.b dX1_peace_94 (by decide) ?_
              refine n_idiv F dX1_peace_95 (by omega) (by omega) (by omega) ?_
              refine lv_iconst (v := nI (1)) F.x F.b dX1_peace_96 (by decide) ?_
              refine n_icmp_ne (tgt := 106) F (by omega) (by omega) dX1_peace_97 (by decide) (fun c_97 => ?_) (fun c_97 => ?_)
              · refine lv_iload F.x F.b dX1_peace_106 (lv_at hl 5 rfl) ?_
                refine m_st F I 7 (by decide) (show 2 < 3 by omega) dX1_peace_108 (fun H locs (I : Iw G A s (mW G o q (S1.1, va_up (va_up S1.2 7 (upd (S1.2 7) (1) (nI (255)))) 7 (upd (upd (S1.2 7) (1) (nI (255))) (2) (nI (L 7 2))))) H locs) => ?_)
                exact J109 0 _ _ _ ⟨(S1.1, va_up (va_up S1.2 7 (upd (S1.2 7) (1) (nI (255)))) 7 (upd (upd (S1.2 7) (1) (nI (255))) (2) (nI (L 7 2)))), by exact h7.st _ _, by first | (rw [if_pos c_76, if_pos c_97]; exact h7.ld hS) | (rw [if_pos c_76, if_neg c_97]; exact h7.ld hS) | (rw [if_neg c_76, if_pos c_97]; exact h7.ld hS) | (rw [if_neg c_76, if_neg c_97]; exact h7.ld hS), I, lv_sub hl [1, 2, 3, 4, 5, 6, 7, 0] rfl⟩
              · refine lv_sipush (v := nI (255)) F.x F.b dX1_peace_100 (by decide) ?_
                refine lv_goto (tgt := 108) F.x F.b dX1_peace_103 (by decide) ?_
                refine m_st F I 7 (by decide) (show 2 < 3 by omega) dX1_peace_108 (fun H locs (I : Iw G A s (mW G o q (S1.1, va_up (va_up S1.2 7 (upd (S1.2 7) (1) (nI (255)))) 7 (upd (upd (S1.2 7) (1) (nI (255))) (2) (nI (255))))) H locs) => ?_)
                exact J109 0 _ _ _ ⟨(S1.1, va_up (va_up S1.2 7 (upd (S1.2 7) (1) (nI (255)))) 7 (upd (upd (S1.2 7) (1) (nI (255))) (2) (nI (255)))), by exact h7.st _ _, by first | (rw [if_pos c_76, if_pos c_97]; exact h7.ld hS) | (rw [if_pos c_76, if_neg c_97]; exact h7.ld hS) | (rw [if_neg c_76, if_pos c_97]; exact h7.ld hS) | (rw [if_neg c_76, if_neg c_97]; exact h7.ld hS), I, lv_sub hl [1, 2, 3, 4, 5, 6, 7, 0] rfl⟩
          · intro _ H locs ls hJ
            obtain ⟨S2, h7, hS2, I, hl⟩ := hJ
            refine W_cut (α := Nat) (cells := 0) (slots := 0) 136 (fun _ => []) (fun _ H locs ls => ∃ (S3 : MS), ∃ (z : Nat), (mK7 S S3) ∧ (pcN L j i (k + 1) = z) ∧ Iw G A s (mW G o q S3) H locs ∧ lv_has ls 8 [(0, .ref (o)), (1, .int (nI (j))), (2, .int (nI (i))), (3, .int (nI (L 7 1))), (4, .int (nI (L 7 2))), (5, .int (eN (z))), (6, .int (nI (k)))]) (fun J136 => ?_) ?_
            · have hpl := pcle j i k
              refine lv_iload F.x F.b dX1_peace_109 (lv_at hl 5 rfl) ?_
              refine lv_bipush (v := (-9)) F.x F.b dX1_peace_111 (by decide) ?_
              refine e9_eq (tgt := 123) F (by omega) dX1_peace_113 (by decide) (fun c_113 => ?_) (fun c_113 => ?_)
              · refine lv_aload_n F.x F.b dX1_peace_123 rfl (lv_at hl 0 rfl) ?_
                refine lv_iload_n F.x F.b dX1_peace_124 rfl (lv_at hl 1 rfl) ?_
                refine lv_iload_n F.x F.b dX1_peace_125 rfl (lv_at hl 2 rfl) ?_
                refine g_calli I (g_runV (n := 2) (ci := 0) (q0 := 0) (As := [.int (nI (j)), .int (nI (i))]) (rest := []) F I (mt_canBy l G o q (S2) (j) (i) (l12 L (if k % 2 = 1 then 255 else L 7 1) (if k / 2 = 1 then 255 else L 7 2)) 99 (by exact hL.l12 (by split <;> omega) (by split <;> omega)) (by exact hS2) (by exact hms) (by omega) (by omega) _) q1373 q1375 qs45 q56 q1376 hd_mt_canBy ⟨Nat.le_of_ble_eq_true rfl, Nat.le_of_ble_eq_true rfl⟩ rfl rfl rfl rfl hl.1 rfl (lv_room (Nat.le_of_ble_eq_true rfl)) dX1_peace_126 ⟨by first | exact Nat.le_refl _ | decide, by first | exact Nat.le_refl _ | decide⟩) (fun r Z126 H locs hp I => ?_)
                obtain ⟨rfl, hq126⟩ := hp
                refine z_eq (tgt := 136) F dX1_peace_129 (by decide) (fun c_129 => ?_) (fun c_129 => ?_)
                · exact J136 0 _ _ _ ⟨Z126, pcN L j i k, by first | exact h7.keep hq126 | exact h7, by first | exact pc_yes ⟨Or.inl c_113, c_129⟩ | exact pc_yes ⟨Or.inr c_120, c_129⟩ | exact pc_no (fun z => by simp [c_129] at z) | exact pc_no (fun z => by omega), I, lv_sub hl [0, 1, 2, 3, 4, 5, 6] rfl⟩
                · refine lv_iload F.x F.b dX1_peace_132 (lv_at hl 7 rfl) ?_
                  refine W.val (y := eN (k % 2 + k / 2)) (by exact (eN_i (by omega)).symm) ?_
                  refine lv_istore (lv' := [(5, .int (eN (k % 2 + k / 2))), (0, .ref (o)), (1, .int (nI (j))), (2, .int (nI (i))), (3, .int (nI (L 7 1))), (4, .int (nI (L 7 2))), (6, .int (nI (k))), (7, .int (nI ((k % 2 + k / 2))))]) F.x F.b dX1_peace_134 hl (by decide) rfl (fun ls hl => ?_)
                  exact J136 0 _ _ _ ⟨Z126, k % 2 + k / 2, by first | exact h7.keep hq126 | exact h7, by first | exact pc_yes ⟨Or.inl c_113, c_129⟩ | exact pc_yes ⟨Or.inr c_120, c_129⟩ | exact pc_no (fun z => by simp [c_129] at z) | exact pc_no (fun z => by omega), I, lv_sub hl [1, 2, 3, 4, 5, 0, 6] rfl⟩
              · refine lv_iload F.x F.b dX1_peace_116 (lv_at hl 7 rfl) ?_
                refine lv_iload F.x F.b dX1_peace_118 (lv_at hl 5 rfl) ?_
                refine W.val (y := nI (pcN L j i k)) (by exact eN_i c_113) ?_
                refine n_icmp_ge (tgt := 136) F (by omega) (by omega) dX1_peace_120 (by decide) (fun c_120 => ?_) (fun c_120 => ?_)
                · exact J136 0 _ _ _ ⟨S2, pcN L j i k, by first | exact h7.keep hq126 | exact h7, by first | exact pc_yes ⟨Or.inl c_113, c_129⟩ | exact pc_yes ⟨Or.inr c_120, c_129⟩ | exact pc_no (fun z => by simp [c_129] at z) | exact pc_no (fun z => by omega), I, lv_sub hl [0, 1, 2, 3, 4, 5, 6] rfl⟩
                · refine lv_aload_n F.x F.b dX1_peace_123 rfl (lv_at hl 0 rfl) ?_
                  refine lv_iload_n F.x F.b dX1_peace_124 rfl (lv_at hl 1 rfl) ?_
                  refine lv_iload_n F.x F.b dX1_peace_125 rfl (lv_at hl 2 rfl) ?_
                  refine g_calli I (g_runV (n := 2) (ci := 0) (q0 := 0) (As := [.int (nI (j)), .int (nI (i))]) (rest := []) F I (mt_canBy l G o q (S2) (j) (i) (l12 L (if k % 2 = 1 then 255 else L 7 1) (if k / 2 = 1 then 255 else L 7 2)) 99 (by exact hL.l12 (by split <;> omega) (by split <;> omega)) (by exact hS2) (by exact hms) (by omega) (by omega) _) q1373 q1375 qs45 q56 q1376 hd_mt_canBy ⟨Nat.le_of_ble_eq_true rfl, Nat.le_of_ble_eq_true rfl⟩ rfl rfl rfl rfl hl.1 rfl (lv_room (Nat.le_of_ble_eq_true rfl)) dX1_peace_126 ⟨by first | exact Nat.le_refl _ | decide, by first | exact Nat.le_refl _ | decide⟩) (fun r Z126 H locs hp I => ?_)
                  obtain ⟨rfl, hq126⟩ := hp
                  refine z_eq (tgt := 136) F dX1_peace_129 (by decide) (fun c_129 => ?_) (fun c_129 => ?_)
                  · exact J136 0 _ _ _ ⟨Z126, pcN L j i k, by first | exact h7.keep hq126 | exact h7, by first | exact pc_yes ⟨Or.inl c_113, c_129⟩ | exact pc_yes ⟨Or.inr c_120, c_129⟩ | exact pc_no (fun z => by simp [c_129] at z) | exact pc_no (fun z => by omega), I, lv_sub hl [0, 1, 2, 3, 4, 5, 6] rfl⟩
                  · refine lv_iload F.x F.b dX1_peace_132 (lv_at hl 7 rfl) ?_
                    refine W.val (y := eN (k % 2 + k / 2)) (by exact (eN_i (by omega)).symm) ?_
                    refine lv_istore (lv' := [(5, .int (eN (k % 2 + k / 2))), (0, .ref (o)), (1, .int (nI (j))), (2, .int (nI (i))), (3, .int (nI (L 7 1))), (4, .int (nI (L 7 2))), (6, .int (nI (k))), (7, .int (nI ((k % 2 + k / 2))))]) F.x F.b dX1_peace_134 hl (by decide) rfl (fun ls hl => ?_)
                    exact J136 0 _ _ _ ⟨Z126, k % 2 + k / 2, by first | exact h7.keep hq126 | exact h7, by first | exact pc_yes ⟨Or.inl c_113, c_129⟩ | exact pc_yes ⟨Or.inr c_120, c_129⟩ | exact pc_no (fun z => by simp [c_129] at z) | exact pc_no (fun z => by omega), I, lv_sub hl [1, 2, 3, 4, 5, 0, 6] rfl⟩
            · intro _ H locs ls hJ
              obtain ⟨S3, z, h7, hz, I, hl⟩ := hJ
              subst hz
              refine lv_iinc (v := nI ((k + 1))) (lv' := [(6, .int (nI ((k + 1)))), (0, .ref (o)), (1, .int (nI (j))), (2, .int (nI (i))), (3, .int (nI (L 7 1))), (4, .int (nI (L 7 2))), (5, .int (eN (pcN L j i (k + 1))))]) F.x F.b dX1_peace_136 hl (k := 6) rfl (nI_1 (k)) (by decide) rfl (fun ls hl => ?_)
              refine lv_goto (tgt := 49) F.x F.b dX1_peace_139 (by decide) ?_
              exact ih49 _ _ _ _ (by omega) ⟨k + 1, S3, rfl, by omega, by exact h7, I, lv_sub hl [1, 2, 3, 4, 5, 6, 0] rfl⟩
      · refine lv_bipush (v := (-3)) F.x F.b dX1_peace_24 (by decide) ?_
        exact g_iret (u := S) F I (by exact ⟨by simp [aPeace, *], mKeep.rf⟩) dX1_peace_26 (by first | exact Nat.le_refl _ | decide) (by first | exact Nat.le_refl _ | decide)
    · refine lv_bipush (v := (-2)) F.x F.b dX1_peace_14 (by decide) ?_
      exact g_iret (u := S) F I (by exact ⟨by simp [aPeace, *], mKeep.rf⟩) dX1_peace_16 (by first | exact Nat.le_refl _ | decide) (by first | exact Nat.le_refl _ | decide)

theorem mRd_push {S : MS} {L : LD} {d x : Nat} (h : mRd S L) : mRd (va_up S.1 26 (nI (L 26 0 + 1)), va_up (va_up S.2 27 (upd (S.2 27) (L 26 0) (nI d))) 28 (upd (S.2 28) (L 26 0) (eN x))) (lUp (lUp (lUp L 27 (L 26 0) d) 28 (L 26 0) x) 26 0 (L 26 0 + 1)) := by
  refine ⟨rfl, fun j hj => ?_⟩
  have hj : j < L 26 0 + 1 := hj
  show upd (S.2 27) (L 26 0) (nI d) j = nI (va_up (L 27) (L 26 0) d j) ∧ upd (S.2 28) (L 26 0) (eN x) j = eN (va_up (L 28) (L 26 0) x j)
  unfold upd va_up
  rcases Nat.decEq j (L 26 0) with h1 | h1
  · rw [if_neg h1, if_neg h1, if_neg h1, if_neg h1]; exact h.2 j (by omega)
  · rw [if_pos h1, if_pos h1, if_pos h1, if_pos h1]; exact ⟨rfl, rfl⟩
theorem dN_9 : eN (dN (-9)) = -9 := by decide
theorem dN_n {i : Nat} (h : i ≤ 7) : eN (dN (nI i)) = nI i := by
  unfold dN; rw [if_neg (nI_n9 i (by omega)), nI_clamp (by omega), eN_i (by omega)]
theorem dN_w {v : Int32} (h : mWi v 0 7 = true) : eN (dN v) = v := by
  obtain ⟨i, hi, rfl⟩ := wi_n (m := 7) (by decide) h
  exact dN_n hi
theorem hd_mt_reading : yX1_reading.cls = RX1 ∧ yX1_reading.cls ≠ "java/lang/invoke/MethodHandle" ∧ yX1_reading.cls ≠ "java/lang/invoke/VarHandle" ∧ (parseMethodDescriptor yX1_reading.desc).map (fun d => d.parameters.length) = some 2 := by decide +kernel
set_option maxHeartbeats 4000000 in
theorem mt_reading (l : Launch) (G : gG) (o : Nat) (q : Nat → Nat) (S : MS) (x : Int32) (v : Int32) (L : LD) (hL : LOk L) (hS : mLd S L 99) (hR : ROk L) (hRd : mRd S L) : gMi l yX1_reading cX1_reading 3 (some .int) ({ frames := 2, cells := 0, slots := 0, locals := 42 } : Room) G [.ref o, .int (x), .int (v)] (mW G o q S) (fun S' => mW G o q S') (fun ρ S' => aRead L x v = ρ ∧ mRd S' (sRead L x v) ∧ mKeep (va_up S'.1 26 (S.1 26), va_up (va_up S'.2 27 (S.2 27)) 28 (S.2 28)) S) := by
  refine gMi_of (by decide) (Nat.le_of_ble_eq_true rfl) ?_
  intro p e s m below meth c ls A F I hl
  have hl : lv_has ls 3 [(0, .ref (o)), (1, .int (x)), (2, .int (v))] := hl
  have hL5 := hL.1
  have hS0 := hS
  have hms : 99 < 100 := by decide
  have hR8 := hR.1
  refine lv_iload_n F.x F.b dX1_reading_0 rfl (lv_at hl 1 rfl) ?_
  refine g_calli I (g_runS (n := 1) (As := [.int (x)]) (rest := []) F I (mt_isDay l G _ (x)   _) q1304 q1305 q56 q1306 hd_mt_isDay.2 ⟨Nat.le_of_ble_eq_true rfl, Nat.le_of_ble_eq_true rfl⟩ rfl rfl hl.1 rfl (lv_room (Nat.le_of_ble_eq_true rfl)) dX1_reading_1 ⟨by first | exact Nat.le_refl _ | decide, by first | exact Nat.le_refl _ | decide⟩) (fun r u_ H locs hp I => ?_)
  obtain rfl := hp
  refine z_eq (tgt := 20) F dX1_reading_4 (by decide) (fun c_4 => ?_) (fun c_4 => ?_)
  · refine lv_bipush (v := (-2)) F.x F.b dX1_reading_20 (by decide) ?_
    exact g_iret (u := S) F I (by exact ⟨by simp [aRead, okRead, *], by simp [sRead, okRead, *], mKeep.rf⟩) dX1_reading_22 (by first | exact Nat.le_refl _ | decide) (by first | exact Nat.le_refl _ | decide)
  · obtain ⟨j, hj, rfl⟩ := wi_n (m := 7) (by decide) c_4
    have tj : (nI j).toNatClampNeg = j := nI_clamp (by omega)
    refine lv_iload_n F.x F.b dX1_reading_7 rfl (lv_at hl 2 rfl) ?_
    refine lv_bipush (v := (-9)) F.x F.b dX1_reading_8 (by decide) ?_
    refine lv_icmp_eq (x := v) (y := (-9)) (tgt := 23) F.x F.b dX1_reading_10 (by decide) (fun c_10 => ?_) (fun c_10 => ?_)
    · refine lv_aload_n F.x F.b dX1_reading_23 rfl (lv_at hl 0 rfl) ?_
      refine m_get (v := nI (L 5 0)) F I 5 (by decide) hS.1 q1160 dX1_reading_24 ?_
      refine n_if_ne (tgt := 33) F (by omega) dX1_reading_27 (by decide) (fun c_27 => ?_) (fun c_27 => ?_)
      · refine lv_aload_n F.x F.b dX1_reading_33 rfl (lv_at hl 0 rfl) ?_
        refine m_get (v := (S.1 26)) F I 26 (by decide) rfl q1181 dX1_reading_34 ?_
        refine W.val (y := nI (L 26 0)) (by exact hRd.1) ?_
        refine lv_bipush (v := nI (8)) F.x F.b dX1_reading_37 (by decide) ?_
        refine n_icmp_ne (tgt := 45) F (by omega) (by omega) dX1_reading_39 (by decide) (fun c_39 => ?_) (fun c_39 => ?_)
        · refine lv_aload_n F.x F.b dX1_reading_45 rfl (lv_at hl 0 rfl) ?_
          refine m_geta F I 27 (by decide) q1182 dX1_reading_46 ?_
          refine lv_aload_n F.x F.b dX1_reading_49 rfl (lv_at hl 0 rfl) ?_
          refine m_get (v := (S.1 26)) F I 26 (by decide) rfl q1181 dX1_reading_50 ?_
          refine W.val (y := nI (L 26 0)) (by exact hRd.1) ?_
          refine lv_iload_n F.x F.b dX1_reading_53 rfl (lv_at hl 1 rfl) ?_
          refine m_st F I 27 (by decide) (show L 26 0 < 8 by omega) dX1_reading_54 (fun H locs (I : Iw G A s (mW G o q (S.1, va_up S.2 27 (upd (S.2 27) (L 26 0) (nI (j))))) H locs) => ?_)
          refine lv_aload_n F.x F.b dX1_reading_55 rfl (lv_at hl 0 rfl) ?_
          refine m_geta F I 28 (by decide) q1183 dX1_reading_56 ?_
          refine lv_aload_n F.x F.b dX1_reading_59 rfl (lv_at hl 0 rfl) ?_
          refine m_get (v := (S.1 26)) F I 26 (by decide) rfl q1181 dX1_reading_60 ?_
          refine W.val (y := nI (L 26 0)) (by exact hRd.1) ?_
          refine lv_iload_n F.x F.b dX1_reading_63 rfl (lv_at hl 2 rfl) ?_
          refine W.val (y := eN (dN v)) (by first | (rw [c_10]; decide) | exact (dN_w c_17).symm) ?_
          refine m_st F I 28 (by decide) (show L 26 0 < 8 by omega) dX1_reading_64 (fun H locs (I : Iw G A s (mW G o q (S.1, va_up (va_up S.2 27 (upd (S.2 27) (L 26 0) (nI (j)))) 28 (upd (S.2 28) (L 26 0) (eN (dN v))))) H locs) => ?_)
          refine lv_aload_n F.x F.b dX1_reading_65 rfl (lv_at hl 0 rfl) ?_
          refine lv_dup F.x F.b dX1_reading_66 rfl ?_
          refine m_get (v := (S.1 26)) F I 26 (by decide) rfl q1181 dX1_reading_67 ?_
          refine W.val (y := nI (L 26 0)) (by exact hRd.1) ?_
          refine lv_iconst (v := nI (1)) F.x F.b dX1_reading_70 (by decide) ?_
          refine n_iadd F dX1_reading_71 ?_
          refine m_put F I 26 (by decide) q1181 dX1_reading_72 (fun H locs (I : Iw G A s (mW G o q (va_up S.1 26 ((nI ((L 26 0 + 1)))), va_up (va_up S.2 27 (upd (S.2 27) (L 26 0) (nI (j)))) 28 (upd (S.2 28) (L 26 0) (eN (dN v))))) H locs) => ?_)
          refine lv_aload_n F.x F.b dX1_reading_75 rfl (lv_at hl 0 rfl) ?_
          refine m_get (v := (nI ((L 26 0 + 1)))) F I 26 (by decide) rfl q1181 dX1_reading_76 ?_
          refine lv_iconst (v := nI (1)) F.x F.b dX1_reading_79 (by decide) ?_
          refine lv_isub (x := (nI ((L 26 0 + 1)))) (y := 1) F.x F.b dX1_reading_80 ?_
          exact g_iret (u := (va_up S.1 26 ((nI ((L 26 0 + 1)))), va_up (va_up S.2 27 (upd (S.2 27) (L 26 0) (nI (j)))) 28 (upd (S.2 28) (L 26 0) (eN (dN v))))) F I (by exact ⟨by simp [aRead, okRead, nI_pred, *], by rw [sRead, if_pos (by simp [okRead, *]), tj]; exact mRd_push hRd, by exact ⟨rfl, rfl, rfl, rfl, rfl, rfl, rfl, rfl, rfl, rfl, rfl, rfl, rfl, rfl, rfl, rfl, rfl⟩⟩) dX1_reading_81 (by first | exact Nat.le_refl _ | decide) (by first | exact Nat.le_refl _ | decide)
        · refine lv_bipush (v := (-4)) F.x F.b dX1_reading_42 (by decide) ?_
          exact g_iret (u := S) F I (by exact ⟨by simp [aRead, okRead, *], by simp [sRead, okRead, *], mKeep.rf⟩) dX1_reading_44 (by first | exact Nat.le_refl _ | decide) (by first | exact Nat.le_refl _ | decide)
      · refine lv_bipush (v := (-3)) F.x F.b dX1_reading_30 (by decide) ?_
        exact g_iret (u := S) F I (by exact ⟨by simp [aRead, okRead, *], by simp [sRead, okRead, *], mKeep.rf⟩) dX1_reading_32 (by first | exact Nat.le_refl _ | decide) (by first | exact Nat.le_refl _ | decide)
    · refine lv_iload_n F.x F.b dX1_reading_13 rfl (lv_at hl 2 rfl) ?_
      refine g_calli I (g_runS (n := 1) (As := [.int (v)]) (rest := []) F I (mt_isDay l G _ (v)   _) q1304 q1305 q56 q1306 hd_mt_isDay.2 ⟨Nat.le_of_ble_eq_true rfl, Nat.le_of_ble_eq_true rfl⟩ rfl rfl hl.1 rfl (lv_room (Nat.le_of_ble_eq_true rfl)) dX1_reading_14 ⟨by first | exact Nat.le_refl _ | decide, by first | exact Nat.le_refl _ | decide⟩) (fun r u_ H locs hp I => ?_)
      obtain rfl := hp
      refine z_ne (tgt := 23) F dX1_reading_17 (by decide) (fun c_17 => ?_) (fun c_17 => ?_)
      · refine lv_aload_n F.x F.b dX1_reading_23 rfl (lv_at hl 0 rfl) ?_
        refine m_get (v := nI (L 5 0)) F I 5 (by decide) hS.1 q1160 dX1_reading_24 ?_
        refine n_if_ne (tgt := 33) F (by omega) dX1_reading_27 (by decide) (fun c_27 => ?_) (fun c_27 => ?_)
        · refine lv_aload_n F.x F.b dX1_reading_33 rfl (lv_at hl 0 rfl) ?_
          refine m_get (v := (S.1 26)) F I 26 (by decide) rfl q1181 dX1_reading_34 ?_
          refine W.val (y := nI (L 26 0)) (by exact hRd.1) ?_
          refine lv_bipush (v := nI (8)) F.x F.b dX1_reading_37 (by decide) ?_
          refine n_icmp_ne (tgt := 45) F (by omega) (by omega) dX1_reading_39 (by decide) (fun c_39 => ?_) (fun c_39 => ?_)
          · refine lv_aload_n F.x F.b dX1_reading_45 rfl (lv_at hl 0 rfl) ?_
            refine m_geta F I 27 (by decide) q1182 dX1_reading_46 ?_
            refine lv_aload_n F.x F.b dX1_reading_49 rfl (lv_at hl 0 rfl) ?_
            refine m_get (v := (S.1 26)) F I 26 (by decide) rfl q1181 dX1_reading_50 ?_
            refine W.val (y := nI (L 26 0)) (by exact hRd.1) ?_
            refine lv_iload_n F.x F.b dX1_reading_53 rfl (lv_at hl 1 rfl) ?_
            refine m_st F I 27 (by decide) (show L 26 0 < 8 by omega) dX1_reading_54 (fun H locs (I : Iw G A s (mW G o q (S.1, va_up S.2 27 (upd (S.2 27) (L 26 0) (nI (j))))) H locs) => ?_)
            refine lv_aload_n F.x F.b dX1_reading_55 rfl (lv_at hl 0 rfl) ?_
            refine m_geta F I 28 (by decide) q1183 dX1_reading_56 ?_
            refine lv_aload_n F.x F.b dX1_reading_59 rfl (lv_at hl 0 rfl) ?_
            refine m_get (v := (S.1 26)) F I 26 (by decide) rfl q1181 dX1_reading_60 ?_
            refine W.val (y := nI (L 26 0)) (by exact hRd.1) ?_
            refine lv_iload_n F.x F.b dX1_reading_63 rfl (lv_at hl 2 rfl) ?_
            refine W.val (y := eN (dN v)) (by first | (rw [c_10]; decide) | exact (dN_w c_17).symm) ?_
            refine m_st F I 28 (by decide) (show L 26 0 < 8 by omega) dX1_reading_64 (fun H locs (I : Iw G A s (mW G o q (S.1, va_up (va_up S.2 27 (upd (S.2 27) (L 26 0) (nI (j)))) 28 (upd (S.2 28) (L 26 0) (eN (dN v))))) H locs) => ?_)
            refine lv_aload_n F.x F.b dX1_reading_65 rfl (lv_at hl 0 rfl) ?_
            refine lv_dup F.x F.b dX1_reading_66 rfl ?_
            refine m_get (v := (S.1 26)) F I 26 (by decide) rfl q1181 dX1_reading_67 ?_
            refine W.val (y := nI (L 26 0)) (by exact hRd.1) ?_
            refine lv_iconst (v := nI (1)) F.x F.b dX1_reading_70 (by decide) ?_
            refine n_iadd F dX1_reading_71 ?_
            refine m_put F I 26 (by decide) q1181 dX1_reading_72 (fun H locs (I : Iw G A s (mW G o q (va_up S.1 26 ((nI ((L 26 0 + 1)))), va_up (va_up S.2 27 (upd (S.2 27) (L 26 0) (nI (j)))) 28 (upd (S.2 28) (L 26 0) (eN (dN v))))) H locs) => ?_)
            refine lv_aload_n F.x F.b dX1_reading_75 rfl (lv_at hl 0 rfl) ?_
            refine m_get (v := (nI ((L 26 0 + 1)))) F I 26 (by decide) rfl q1181 dX1_reading_76 ?_
            refine lv_iconst (v := nI (1)) F.x F.b dX1_reading_79 (by decide) ?_
            refine lv_isub (x := (nI ((L 26 0 + 1)))) (y := 1) F.x F.b dX1_reading_80 ?_
            exact g_iret (u := (va_up S.1 26 ((nI ((L 26 0 + 1)))), va_up (va_up S.2 27 (upd (S.2 27) (L 26 0) (nI (j)))) 28 (upd (S.2 28) (L 26 0) (eN (dN v))))) F I (by exact ⟨by simp [aRead, okRead, nI_pred, *], by rw [sRead, if_pos (by simp [okRead, *]), tj]; exact mRd_push hRd, by exact ⟨rfl, rfl, rfl, rfl, rfl, rfl, rfl, rfl, rfl, rfl, rfl, rfl, rfl, rfl, rfl, rfl, rfl⟩⟩) dX1_reading_81 (by first | exact Nat.le_refl _ | decide) (by first | exact Nat.le_refl _ | decide)
          · refine lv_bipush (v := (-4)) F.x F.b dX1_reading_42 (by decide) ?_
            exact g_iret (u := S) F I (by exact ⟨by simp [aRead, okRead, *], by simp [sRead, okRead, *], mKeep.rf⟩) dX1_reading_44 (by first | exact Nat.le_refl _ | decide) (by first | exact Nat.le_refl _ | decide)
        · refine lv_bipush (v := (-3)) F.x F.b dX1_reading_30 (by decide) ?_
          exact g_iret (u := S) F I (by exact ⟨by simp [aRead, okRead, *], by simp [sRead, okRead, *], mKeep.rf⟩) dX1_reading_32 (by first | exact Nat.le_refl _ | decide) (by first | exact Nat.le_refl _ | decide)
      · refine lv_bipush (v := (-2)) F.x F.b dX1_reading_20 (by decide) ?_
        exact g_iret (u := S) F I (by exact ⟨by simp [aRead, okRead, *], by simp [sRead, okRead, *], mKeep.rf⟩) dX1_reading_22 (by first | exact Nat.le_refl _ | decide) (by first | exact Nat.le_refl _ | decide)

theorem mRd_pop {S : MS} {L : LD} {n : Nat} (h : mRd S L) (hn : n ≤ L 26 0) : mRd (va_up S.1 26 (nI n), S.2) (lUp L 26 0 n) := ⟨rfl, fun j hj => h.2 j (Nat.lt_of_lt_of_le hj hn)⟩
theorem hd_mt_back : yX1_back.cls = RX1 ∧ yX1_back.cls ≠ "java/lang/invoke/MethodHandle" ∧ yX1_back.cls ≠ "java/lang/invoke/VarHandle" ∧ (parseMethodDescriptor yX1_back.desc).map (fun d => d.parameters.length) = some 1 := by decide +kernel
set_option maxHeartbeats 4000000 in
theorem mt_back (l : Launch) (G : gG) (o : Nat) (q : Nat → Nat) (S : MS) (x : Int32) (L : LD) (hL : LOk L) (hS : mLd S L 99) (hR : ROk L) (hRd : mRd S L) : gMi l yX1_back cX1_back 2 (some .int) ({ frames := 1, cells := 0, slots := 0, locals := 22 } : Room) G [.ref o, .int (x)] (mW G o q S) (fun S' => mW G o q S') (fun ρ S' => aBack L x = ρ ∧ mRd S' (sBack L x) ∧ mKeep (va_up S'.1 26 (S.1 26), S'.2) S) := by
  refine gMi_of (by decide) (Nat.le_of_ble_eq_true rfl) ?_
  intro p e s m below meth c ls A F I hl
  have hl : lv_has ls 2 [(0, .ref (o)), (1, .int (x))] := hl
  have hL5 := hL.1
  have hS0 := hS
  have hms : 99 < 100 := by decide
  have hR8 := hR.1
  refine lv_iload_n F.x F.b dX1_back_0 rfl (lv_at hl 1 rfl) ?_
  refine lv_iconst (v := nI (0)) F.x F.b dX1_back_1 (by decide) ?_
  refine lv_aload_n F.x F.b dX1_back_2 rfl (lv_at hl 0 rfl) ?_
  refine m_get (v := (S.1 26)) F I 26 (by decide) rfl q1181 dX1_back_3 ?_
  refine W.val (y := nI (L 26 0)) (by exact hRd.1) ?_
  refine g_calli I (g_runS (n := 3) (As := [.int (x), .int (nI (0)), .int (nI (L 26 0))]) (rest := []) F I (mt_within l G _ (x) (0) ((nI (L 26 0)))   _) q1250 q1251 q56 q1252 hd_mt_within.2 ⟨Nat.le_of_ble_eq_true rfl, Nat.le_of_ble_eq_true rfl⟩ rfl rfl hl.1 rfl (lv_room (Nat.le_of_ble_eq_true rfl)) dX1_back_6 ⟨by first | exact Nat.le_refl _ | decide, by first | exact Nat.le_refl _ | decide⟩) (fun r u_ H locs hp I => ?_)
  obtain rfl := hp
  refine z_ne (tgt := 15) F dX1_back_9 (by decide) (fun c_9 => ?_) (fun c_9 => ?_)
  · obtain ⟨j, hj, rfl⟩ := wi_n (m := L 26 0) (by omega) c_9
    have tj : (nI j).toNatClampNeg = j := nI_clamp (by omega)
    refine lv_aload_n F.x F.b dX1_back_15 rfl (lv_at hl 0 rfl) ?_
    refine lv_dup F.x F.b dX1_back_16 rfl ?_
    refine m_get (v := (S.1 26)) F I 26 (by decide) rfl q1181 dX1_back_17 ?_
    refine W.val (y := nI (L 26 0)) (by exact hRd.1) ?_
    refine lv_iload_n F.x F.b dX1_back_20 rfl (lv_at hl 1 rfl) ?_
    refine lv_isub (x := (nI (L 26 0))) (y := (nI (j))) F.x F.b dX1_back_21 ?_
    refine W.val (y := nI ((L 26 0 - j))) (by exact pk_sub hj) ?_
    refine m_put F I 26 (by decide) q1181 dX1_back_22 (fun H locs (I : Iw G A s (mW G o q (va_up S.1 26 ((nI ((L 26 0 - j)))), S.2)) H locs) => ?_)
    refine lv_aload_n F.x F.b dX1_back_25 rfl (lv_at hl 0 rfl) ?_
    refine m_get (v := (nI ((L 26 0 - j)))) F I 26 (by decide) rfl q1181 dX1_back_26 ?_
    refine W.val (y := nI ((L 26 0 - j))) (by rfl) ?_
    exact g_iret (u := (va_up S.1 26 ((nI ((L 26 0 - j)))), S.2)) F I (by exact ⟨by rw [aBack, if_pos c_9, tj], by rw [sBack, if_pos c_9, tj]; exact mRd_pop hRd (Nat.sub_le _ _), by exact ⟨rfl, rfl, rfl, rfl, rfl, rfl, rfl, rfl, rfl, rfl, rfl, rfl, rfl, rfl, rfl, rfl, rfl⟩⟩) dX1_back_29 (by first | exact Nat.le_refl _ | decide) (by first | exact Nat.le_refl _ | decide)
  · refine lv_bipush (v := (-2)) F.x F.b dX1_back_12 (by decide) ?_
    exact g_iret (u := S) F I (by exact ⟨by simp [aBack, *], by simp [sBack, *], mKeep.rf⟩) dX1_back_14 (by first | exact Nat.le_refl _ | decide) (by first | exact Nat.le_refl _ | decide)

theorem hd_mt_snows : yX1_snows.cls = RX1 ∧ yX1_snows.cls ≠ "java/lang/invoke/MethodHandle" ∧ yX1_snows.cls ≠ "java/lang/invoke/VarHandle" ∧ (parseMethodDescriptor yX1_snows.desc).map (fun d => d.parameters.length) = some 1 := by decide +kernel
set_option maxHeartbeats 4000000 in
theorem mt_snows (l : Launch) (G : gG) (o : Nat) (q : Nat → Nat) (S : MS) (x : Int32) (L : LD) (hL : LOk L) (hS : mLd S L 99) (hR : ROk L) (hRd : mRd S L) : gMi l yX1_snows cX1_snows 5 (some .int) ({ frames := 6, cells := 0, slots := 0, locals := 138 } : Room) G [.ref o, .int (x)] (mW G o q S) (fun S' => mW G o q S') (fun ρ S' => aSnows L x = ρ ∧ mKeep S S') := by
  refine gMi_of (by decide) (Nat.le_of_ble_eq_true rfl) ?_
  intro p e s m below meth c ls A F I hl
  have hl : lv_has ls 5 [(0, .ref (o)), (1, .int (x))] := hl
  have hL5 := hL.1
  have hS0 := hS
  have hms : 99 < 100 := by decide
  have hR8 := hR.1
  refine lv_iload_n F.x F.b dX1_snows_0 rfl (lv_at hl 1 rfl) ?_
  refine g_calli I (g_runS (n := 1) (As := [.int (x)]) (rest := []) F I (mt_isDay l G _ (x)   _) q1304 q1305 q56 q1306 hd_mt_isDay.2 ⟨Nat.le_of_ble_eq_true rfl, Nat.le_of_ble_eq_true rfl⟩ rfl rfl hl.1 rfl (lv_room (Nat.le_of_ble_eq_true rfl)) dX1_snows_1 ⟨by first | exact Nat.le_refl _ | decide, by first | exact Nat.le_refl _ | decide⟩) (fun r u_ H locs hp I => ?_)
  obtain rfl := hp
  refine z_ne (tgt := 10) F dX1_snows_4 (by decide) (fun c_4 => ?_) (fun c_4 => ?_)
  · obtain ⟨j, hj, rfl⟩ := wi_n (m := 7) (by decide) c_4
    have tj : (nI j).toNatClampNeg = j := nI_clamp (by omega)
    refine lv_aload_n F.x F.b dX1_snows_10 rfl (lv_at hl 0 rfl) ?_
    refine m_get (v := nI (L 5 0)) F I 5 (by decide) hS.1 q1160 dX1_snows_11 ?_
    refine n_if_ne (tgt := 20) F (by omega) dX1_snows_14 (by decide) (fun c_14 => ?_) (fun c_14 => ?_)
    · refine lv_aload_n F.x F.b dX1_snows_20 rfl (lv_at hl 0 rfl) ?_
      refine m_geta F I 6 (by decide) q1161 dX1_snows_21 ?_
      refine lv_iload_n F.x F.b dX1_snows_24 rfl (lv_at hl 1 rfl) ?_
      refine m_ld (v := ((S.2 6) (j))) F I 6 (by decide) (show j < 8 by omega) rfl dX1_snows_25 ?_
      refine W.val (y := nI (L 6 j)) (by exact hS.2.2.2.1 j (by omega)) ?_
      refine lv_istore_n (lv' := [(2, .int (nI (L 6 j))), (0, .ref (o)), (1, .int (nI (j)))]) F.x F.b dX1_snows_26 rfl hl (by decide) rfl (fun ls hl => ?_)
      refine lv_iconst (v := nI (0)) F.x F.b dX1_snows_27 (by decide) ?_
      refine lv_istore_n (lv' := [(3, .int (nI (0))), (2, .int (nI (L 6 j))), (0, .ref (o)), (1, .int (nI (j)))]) F.x F.b dX1_snows_28 rfl hl (by decide) rfl (fun ls hl => ?_)
      refine lv_iconst (v := nI (0)) F.x F.b dX1_snows_29 (by decide) ?_
      refine lv_istore (lv' := [(4, .int (nI (0))), (3, .int (nI (0))), (2, .int (nI (L 6 j))), (0, .ref (o)), (1, .int (nI (j)))]) F.x F.b dX1_snows_30 hl (by decide) rfl (fun ls hl => ?_)
      refine W_ind 32 (fun _ => []) (fun n_J => n_J) (fun n_J H locs ls => ∃ (v : Nat) (S1 : MS), n_J = 10 - v ∧ (v ≤ 10) ∧ (mC_6 j S S1) ∧  Iw G A s (mW G o q S1) H locs ∧ lv_has ls 5 [(0, .ref (o)), (1, .int (nI (j))), (2, .int (nI (L 6 j))), (3, .int (bSet (fun v => pSo (lUp L 6 j v) 99 (L 26 0)) v)), (4, .int (nI (v)))]) ?_ _ ⟨0, S, rfl, by omega, by exact mC_6.rf, I, lv_sub hl [3, 4, 2, 1, 0] rfl⟩
      intro n32 H locs ls hJ ih32
      obtain ⟨v, S1, hn32, hv, hc, I, hl⟩ := hJ
      refine lv_iload F.x F.b dX1_snows_32 (lv_at hl 4 rfl) ?_
      refine lv_bipush (v := nI (9)) F.x F.b dX1_snows_34 (by decide) ?_
      refine n_icmp_gt (tgt := 71) F (by omega) (by omega) dX1_snows_36 (by decide) (fun c_36 => ?_) (fun c_36 => ?_)
      · refine lv_aload_n F.x F.b dX1_snows_71 rfl (lv_at hl 0 rfl) ?_
        refine m_geta F I 6 (by decide) q1161 dX1_snows_72 ?_
        refine lv_iload_n F.x F.b dX1_snows_75 rfl (lv_at hl 1 rfl) ?_
        refine lv_iload_n F.x F.b dX1_snows_76 rfl (lv_at hl 2 rfl) ?_
        refine m_st F I 6 (by decide) (show j < 8 by omega) dX1_snows_77 (fun H locs (I : Iw G A s (mW G o q (S1.1, va_up S1.2 6 (upd (S1.2 6) (j) (nI (L 6 j))))) H locs) => ?_)
        refine lv_iload_n F.x F.b dX1_snows_78 rfl (lv_at hl 3 rfl) ?_
        exact g_iret (u := (S1.1, va_up S1.2 6 (upd (S1.2 6) (j) (nI (L 6 j))))) F I (by exact ⟨by rw [aSnows, if_pos c_4, if_neg c_14, tj, show v = 10 by omega], hc.done hS (by omega)⟩) dX1_snows_79 (by first | exact Nat.le_refl _ | decide) (by first | exact Nat.le_refl _ | decide)
      · refine lv_aload_n F.x F.b dX1_snows_39 rfl (lv_at hl 0 rfl) ?_
        refine m_geta F I 6 (by decide) q1161 dX1_snows_40 ?_
        refine lv_iload_n F.x F.b dX1_snows_43 rfl (lv_at hl 1 rfl) ?_
        refine lv_iload F.x F.b dX1_snows_44 (lv_at hl 4 rfl) ?_
        refine m_st F I 6 (by decide) (show j < 8 by omega) dX1_snows_46 (fun H locs (I : Iw G A s (mW G o q (S1.1, va_up S1.2 6 (upd (S1.2 6) (j) (nI (v))))) H locs) => ?_)
        have hSv := hc.ld (x := v) hS
        have hRv := mRd_keep hRd hc.1
        refine lv_iload_n F.x F.b dX1_snows_47 rfl (lv_at hl 3 rfl) ?_
        refine lv_aload_n F.x F.b dX1_snows_48 rfl (lv_at hl 0 rfl) ?_
        refine g_calli I (g_runV (n := 0) (ci := 0) (q0 := 0) (As := []) (rest := [.int (bSet (fun v => pSo (lUp L 6 j v) 99 (L 26 0)) v)]) F I (mt_areSo l G o q ((S1.1, va_up S1.2 6 (upd (S1.2 6) (j) (nI (v)))))  (lUp L 6 j v) 99 (by exact hL.up6 (by omega)) (by exact hSv) (by exact hms) (by exact hR) (by exact hRv) _) q1405 q1407 qs47 q56 q1408 hd_mt_areSo ⟨Nat.le_of_ble_eq_true rfl, Nat.le_of_ble_eq_true rfl⟩ rfl rfl rfl rfl hl.1 rfl (lv_room (Nat.le_of_ble_eq_true rfl)) dX1_snows_49 ⟨by first | exact Nat.le_refl _ | decide, by first | exact Nat.le_refl _ | decide⟩) (fun r Z49 H locs hp I => ?_)
        obtain ⟨rfl, hq49⟩ := hp
        refine z_eq (tgt := 62) F dX1_snows_52 (by decide) (fun c_52 => ?_) (fun c_52 => ?_)
        · refine lv_iconst (v := nI (0)) F.x F.b dX1_snows_62 (by decide) ?_
          refine lv_ior (x := bSet (fun v => pSo (lUp L 6 j v) 99 (L 26 0)) v) (y := 0) F.x F.b dX1_snows_63 ?_
          refine W.val (y := bSet (fun v => pSo (lUp L 6 j v) 99 (L 26 0)) (v + 1)) (by first | exact bSet_t (fun v => pSo (lUp L 6 j v) 99 (L 26 0)) v c_52 | exact bSet_n (fun v => pSo (lUp L 6 j v) 99 (L 26 0)) v c_52) ?_
          refine lv_istore_n (lv' := [(3, .int (bSet (fun v => pSo (lUp L 6 j v) 99 (L 26 0)) (v + 1))), (0, .ref (o)), (1, .int (nI (j))), (2, .int (nI (L 6 j))), (4, .int (nI (v)))]) F.x F.b dX1_snows_64 rfl hl (by decide) rfl (fun ls hl => ?_)
          refine lv_iinc (v := nI ((v + 1))) (lv' := [(4, .int (nI ((v + 1)))), (3, .int (bSet (fun v => pSo (lUp L 6 j v) 99 (L 26 0)) (v + 1))), (0, .ref (o)), (1, .int (nI (j))), (2, .int (nI (L 6 j)))]) F.x F.b dX1_snows_65 hl (k := 4) rfl (nI_1 (v)) (by decide) rfl (fun ls hl => ?_)
          refine lv_goto (tgt := 32) F.x F.b dX1_snows_68 (by decide) ?_
          exact ih32 _ _ _ _ (by omega) ⟨v + 1, Z49, rfl, by omega, by exact (hc.st _).keep hq49, I, lv_sub hl [2, 3, 4, 1, 0] rfl⟩
        · refine lv_iconst (v := nI (1)) F.x F.b dX1_snows_55 (by decide) ?_
          refine lv_iload F.x F.b dX1_snows_56 (lv_at hl 4 rfl) ?_
          refine lv_ishl (x := 1) (y := (nI (v))) F.x F.b dX1_snows_58 ?_
          refine lv_goto (tgt := 63) F.x F.b dX1_snows_59 (by decide) ?_
          refine lv_ior (x := bSet (fun v => pSo (lUp L 6 j v) 99 (L 26 0)) v) (y := (1 <<< ((nI (v)) &&& 31))) F.x F.b dX1_snows_63 ?_
          refine W.val (y := bSet (fun v => pSo (lUp L 6 j v) 99 (L 26 0)) (v + 1)) (by first | exact bSet_t (fun v => pSo (lUp L 6 j v) 99 (L 26 0)) v c_52 | exact bSet_n (fun v => pSo (lUp L 6 j v) 99 (L 26 0)) v c_52) ?_
          refine lv_istore_n (lv' := [(3, .int (bSet (fun v => pSo (lUp L 6 j v) 99 (L 26 0)) (v + 1))), (0, .ref (o)), (1, .int (nI (j))), (2, .int (nI (L 6 j))), (4, .int (nI (v)))]) F.x F.b dX1_snows_64 rfl hl (by decide) rfl (fun ls hl => ?_)
          refine lv_iinc (v := nI ((v + 1))) (lv' := [(4, .int (nI ((v + 1)))), (3, .int (bSet (fun v => pSo (lUp L 6 j v) 99 (L 26 0)) (v + 1))), (0, .ref (o)), (1, .int (nI (j))), (2, .int (nI (L 6 j)))]) F.x F.b dX1_snows_65 hl (k := 4) rfl (nI_1 (v)) (by decide) rfl (fun ls hl => ?_)
          refine lv_goto (tgt := 32) F.x F.b dX1_snows_68 (by decide) ?_
          exact ih32 _ _ _ _ (by omega) ⟨v + 1, Z49, rfl, by omega, by exact (hc.st _).keep hq49, I, lv_sub hl [2, 3, 4, 1, 0] rfl⟩
    · refine lv_bipush (v := (-3)) F.x F.b dX1_snows_17 (by decide) ?_
      exact g_iret (u := S) F I (by exact ⟨by simp [aSnows, *], mKeep.rf⟩) dX1_snows_19 (by first | exact Nat.le_refl _ | decide) (by first | exact Nat.le_refl _ | decide)
  · refine lv_bipush (v := (-2)) F.x F.b dX1_snows_7 (by decide) ?_
    exact g_iret (u := S) F I (by exact ⟨by simp [aSnows, *], mKeep.rf⟩) dX1_snows_9 (by first | exact Nat.le_refl _ | decide) (by first | exact Nat.le_refl _ | decide)

theorem hd_mt_heights : yX1_heights.cls = RX1 ∧ yX1_heights.cls ≠ "java/lang/invoke/MethodHandle" ∧ yX1_heights.cls ≠ "java/lang/invoke/VarHandle" ∧ (parseMethodDescriptor yX1_heights.desc).map (fun d => d.parameters.length) = some 1 := by decide +kernel
set_option maxHeartbeats 4000000 in
theorem mt_heights (l : Launch) (G : gG) (o : Nat) (q : Nat → Nat) (S : MS) (x : Int32) (L : LD) (hL : LOk L) (hS : mLd S L 99) (hR : ROk L) (hRd : mRd S L) : gMi l yX1_heights cX1_heights 5 (some .int) ({ frames := 6, cells := 0, slots := 0, locals := 138 } : Room) G [.ref o, .int (x)] (mW G o q S) (fun S' => mW G o q S') (fun ρ S' => aHigh L x = ρ ∧ mKeep S S') := by
  refine gMi_of (by decide) (Nat.le_of_ble_eq_true rfl) ?_
  intro p e s m below meth c ls A F I hl
  have hl : lv_has ls 5 [(0, .ref (o)), (1, .int (x))] := hl
  have hL5 := hL.1
  have hS0 := hS
  have hms : 99 < 100 := by decide
  have hR8 := hR.1
  refine lv_aload_n F.x F.b dX1_heights_0 rfl (lv_at hl 0 rfl) ?_
  refine lv_iload_n F.x F.b dX1_heights_1 rfl (lv_at hl 1 rfl) ?_
  refine g_calli I (g_runV (n := 1) (ci := 0) (q0 := 0) (As := [.int (x)]) (rest := []) F I (mt_isPassA l G o q (S) (x) L 99 (by exact hL) (by exact hS) _) q1292 q1294 qs34 q56 q1295 hd_mt_isPass ⟨Nat.le_of_ble_eq_true rfl, Nat.le_of_ble_eq_true rfl⟩ rfl rfl rfl rfl hl.1 rfl (lv_room (Nat.le_of_ble_eq_true rfl)) dX1_heights_2 ⟨by first | exact Nat.le_refl _ | decide, by first | exact Nat.le_refl _ | decide⟩) (fun r u_ H locs hp I => ?_)
  obtain ⟨rfl, rfl⟩ := hp
  refine z_ne (tgt := 10) F dX1_heights_5 (by decide) (fun c_5 => ?_) (fun c_5 => ?_)
  · obtain ⟨j, hj, rfl⟩ := pv_n hL5 c_5
    have tj : (nI j).toNatClampNeg = j := nI_clamp (by omega)
    refine lv_aload_n F.x F.b dX1_heights_10 rfl (lv_at hl 0 rfl) ?_
    refine m_geta F I 12 (by decide) q1167 dX1_heights_11 ?_
    refine lv_iload_n F.x F.b dX1_heights_14 rfl (lv_at hl 1 rfl) ?_
    refine m_ld (v := ((S.2 12) (j))) F I 12 (by decide) (show j < 6 by omega) rfl dX1_heights_15 ?_
    refine W.val (y := nI (L 12 j)) (by exact (hS.2.2.1 j hj).2.2.2.2) ?_
    refine lv_istore_n (lv' := [(2, .int (nI (L 12 j))), (0, .ref (o)), (1, .int (nI (j)))]) F.x F.b dX1_heights_16 rfl hl (by decide) rfl (fun ls hl => ?_)
    refine lv_iconst (v := nI (0)) F.x F.b dX1_heights_17 (by decide) ?_
    refine lv_istore_n (lv' := [(3, .int (nI (0))), (2, .int (nI (L 12 j))), (0, .ref (o)), (1, .int (nI (j)))]) F.x F.b dX1_heights_18 rfl hl (by decide) rfl (fun ls hl => ?_)
    refine lv_iconst (v := nI (0)) F.x F.b dX1_heights_19 (by decide) ?_
    refine lv_istore (lv' := [(4, .int (nI (0))), (3, .int (nI (0))), (2, .int (nI (L 12 j))), (0, .ref (o)), (1, .int (nI (j)))]) F.x F.b dX1_heights_20 hl (by decide) rfl (fun ls hl => ?_)
    refine W_ind 22 (fun _ => []) (fun n_J => n_J) (fun n_J H locs ls => ∃ (v : Nat) (S1 : MS), n_J = 10 - v ∧ (v ≤ 10) ∧ (mC_12 j S S1) ∧  Iw G A s (mW G o q S1) H locs ∧ lv_has ls 5 [(0, .ref (o)), (1, .int (nI (j))), (2, .int (nI (L 12 j))), (3, .int (bSet (fun v => pSo (lUp L 12 j v) 99 (L 26 0)) v)), (4, .int (nI (v)))]) ?_ _ ⟨0, S, rfl, by omega, by exact mC_12.rf, I, lv_sub hl [3, 4, 2, 1, 0] rfl⟩
    intro n22 H locs ls hJ ih22
    obtain ⟨v, S1, hn22, hv, hc, I, hl⟩ := hJ
    refine lv_iload F.x F.b dX1_heights_22 (lv_at hl 4 rfl) ?_
    refine lv_bipush (v := nI (9)) F.x F.b dX1_heights_24 (by decide) ?_
    refine n_icmp_gt (tgt := 61) F (by omega) (by omega) dX1_heights_26 (by decide) (fun c_26 => ?_) (fun c_26 => ?_)
    · refine lv_aload_n F.x F.b dX1_heights_61 rfl (lv_at hl 0 rfl) ?_
      refine m_geta F I 12 (by decide) q1167 dX1_heights_62 ?_
      refine lv_iload_n F.x F.b dX1_heights_65 rfl (lv_at hl 1 rfl) ?_
      refine lv_iload_n F.x F.b dX1_heights_66 rfl (lv_at hl 2 rfl) ?_
      refine m_st F I 12 (by decide) (show j < 6 by omega) dX1_heights_67 (fun H locs (I : Iw G A s (mW G o q (S1.1, va_up S1.2 12 (upd (S1.2 12) (j) (nI (L 12 j))))) H locs) => ?_)
      refine lv_iload_n F.x F.b dX1_heights_68 rfl (lv_at hl 3 rfl) ?_
      exact g_iret (u := (S1.1, va_up S1.2 12 (upd (S1.2 12) (j) (nI (L 12 j))))) F I (by exact ⟨by rw [aHigh, if_pos c_5, tj, show v = 10 by omega], hc.done hS (by omega)⟩) dX1_heights_69 (by first | exact Nat.le_refl _ | decide) (by first | exact Nat.le_refl _ | decide)
    · refine lv_aload_n F.x F.b dX1_heights_29 rfl (lv_at hl 0 rfl) ?_
      refine m_geta F I 12 (by decide) q1167 dX1_heights_30 ?_
      refine lv_iload_n F.x F.b dX1_heights_33 rfl (lv_at hl 1 rfl) ?_
      refine lv_iload F.x F.b dX1_heights_34 (lv_at hl 4 rfl) ?_
      refine m_st F I 12 (by decide) (show j < 6 by omega) dX1_heights_36 (fun H locs (I : Iw G A s (mW G o q (S1.1, va_up S1.2 12 (upd (S1.2 12) (j) (nI (v))))) H locs) => ?_)
      have hSv := hc.ld (x := v) hS
      have hRv := mRd_keep hRd hc.1
      refine lv_iload_n F.x F.b dX1_heights_37 rfl (lv_at hl 3 rfl) ?_
      refine lv_aload_n F.x F.b dX1_heights_38 rfl (lv_at hl 0 rfl) ?_
      refine g_calli I (g_runV (n := 0) (ci := 0) (q0 := 0) (As := []) (rest := [.int (bSet (fun v => pSo (lUp L 12 j v) 99 (L 26 0)) v)]) F I (mt_areSo l G o q ((S1.1, va_up S1.2 12 (upd (S1.2 12) (j) (nI (v)))))  (lUp L 12 j v) 99 (by exact hL.up12 (by omega)) (by exact hSv) (by exact hms) (by exact hR) (by exact hRv) _) q1405 q1407 qs47 q56 q1408 hd_mt_areSo ⟨Nat.le_of_ble_eq_true rfl, Nat.le_of_ble_eq_true rfl⟩ rfl rfl rfl rfl hl.1 rfl (lv_room (Nat.le_of_ble_eq_true rfl)) dX1_heights_39 ⟨by first | exact Nat.le_refl _ | decide, by first | exact Nat.le_refl _ | decide⟩) (fun r Z39 H locs hp I => ?_)
      obtain ⟨rfl, hq39⟩ := hp
      refine z_eq (tgt := 52) F dX1_heights_42 (by decide) (fun c_42 => ?_) (fun c_42 => ?_)
      · refine lv_iconst (v := nI (0)) F.x F.b dX1_heights_52 (by decide) ?_
        refine lv_ior (x := bSet (fun v => pSo (lUp L 12 j v) 99 (L 26 0)) v) (y := 0) F.x F.b dX1_heights_53 ?_
        refine W.val (y := bSet (fun v => pSo (lUp L 12 j v) 99 (L 26 0)) (v + 1)) (by first | exact bSet_t (fun v => pSo (lUp L 12 j v) 99 (L 26 0)) v c_42 | exact bSet_n (fun v => pSo (lUp L 12 j v) 99 (L 26 0)) v c_42) ?_
        refine lv_istore_n (lv' := [(3, .int (bSet (fun v => pSo (lUp L 12 j v) 99 (L 26 0)) (v + 1))), (0, .ref (o)), (1, .int (nI (j))), (2, .int (nI (L 12 j))), (4, .int (nI (v)))]) F.x F.b dX1_heights_54 rfl hl (by decide) rfl (fun ls hl => ?_)
        refine lv_iinc (v := nI ((v + 1))) (lv' := [(4, .int (nI ((v + 1)))), (3, .int (bSet (fun v => pSo (lUp L 12 j v) 99 (L 26 0)) (v + 1))), (0, .ref (o)), (1, .int (nI (j))), (2, .int (nI (L 12 j)))]) F.x F.b dX1_heights_55 hl (k := 4) rfl (nI_1 (v)) (by decide) rfl (fun ls hl => ?_)
        refine lv_goto (tgt := 22) F.x F.b dX1_heights_58 (by decide) ?_
        exact ih22 _ _ _ _ (by omega) ⟨v + 1, Z39, rfl, by omega, by exact (hc.st _).keep hq39, I, lv_sub hl [2, 3, 4, 1, 0] rfl⟩
      · refine lv_iconst (v := nI (1)) F.x F.b dX1_heights_45 (by decide) ?_
        refine lv_iload F.x F.b dX1_heights_46 (lv_at hl 4 rfl) ?_
        refine lv_ishl (x := 1) (y := (nI (v))) F.x F.b dX1_heights_48 ?_
        refine lv_goto (tgt := 53) F.x F.b dX1_heights_49 (by decide) ?_
        refine lv_ior (x := bSet (fun v => pSo (lUp L 12 j v) 99 (L 26 0)) v) (y := (1 <<< ((nI (v)) &&& 31))) F.x F.b dX1_heights_53 ?_
        refine W.val (y := bSet (fun v => pSo (lUp L 12 j v) 99 (L 26 0)) (v + 1)) (by first | exact bSet_t (fun v => pSo (lUp L 12 j v) 99 (L 26 0)) v c_42 | exact bSet_n (fun v => pSo (lUp L 12 j v) 99 (L 26 0)) v c_42) ?_
        refine lv_istore_n (lv' := [(3, .int (bSet (fun v => pSo (lUp L 12 j v) 99 (L 26 0)) (v + 1))), (0, .ref (o)), (1, .int (nI (j))), (2, .int (nI (L 12 j))), (4, .int (nI (v)))]) F.x F.b dX1_heights_54 rfl hl (by decide) rfl (fun ls hl => ?_)
        refine lv_iinc (v := nI ((v + 1))) (lv' := [(4, .int (nI ((v + 1)))), (3, .int (bSet (fun v => pSo (lUp L 12 j v) 99 (L 26 0)) (v + 1))), (0, .ref (o)), (1, .int (nI (j))), (2, .int (nI (L 12 j)))]) F.x F.b dX1_heights_55 hl (k := 4) rfl (nI_1 (v)) (by decide) rfl (fun ls hl => ?_)
        refine lv_goto (tgt := 22) F.x F.b dX1_heights_58 (by decide) ?_
        exact ih22 _ _ _ _ (by omega) ⟨v + 1, Z39, rfl, by omega, by exact (hc.st _).keep hq39, I, lv_sub hl [2, 3, 4, 1, 0] rfl⟩
  · refine lv_iconst (v := (-1)) F.x F.b dX1_heights_8 (by decide) ?_
    exact g_iret (u := S) F I (by exact ⟨by simp [aHigh, *], mKeep.rf⟩) dX1_heights_9 (by first | exact Nat.le_refl _ | decide) (by first | exact Nat.le_refl _ | decide)

theorem hd_mt_kinds : yX1_kinds.cls = RX1 ∧ yX1_kinds.cls ≠ "java/lang/invoke/MethodHandle" ∧ yX1_kinds.cls ≠ "java/lang/invoke/VarHandle" ∧ (parseMethodDescriptor yX1_kinds.desc).map (fun d => d.parameters.length) = some 1 := by decide +kernel
set_option maxHeartbeats 4000000 in
theorem mt_kinds (l : Launch) (G : gG) (o : Nat) (q : Nat → Nat) (S : MS) (x : Int32) (L : LD) (hL : LOk L) (hS : mLd S L 99) (hR : ROk L) (hRd : mRd S L) : gMi l yX1_kinds cX1_kinds 5 (some .int) ({ frames := 6, cells := 0, slots := 0, locals := 138 } : Room) G [.ref o, .int (x)] (mW G o q S) (fun S' => mW G o q S') (fun ρ S' => aKind L x = ρ ∧ mKeep S S') := by
  refine gMi_of (by decide) (Nat.le_of_ble_eq_true rfl) ?_
  intro p e s m below meth c ls A F I hl
  have hl : lv_has ls 5 [(0, .ref (o)), (1, .int (x))] := hl
  have hL5 := hL.1
  have hS0 := hS
  have hms : 99 < 100 := by decide
  have hR8 := hR.1
  refine lv_aload_n F.x F.b dX1_kinds_0 rfl (lv_at hl 0 rfl) ?_
  refine lv_iload_n F.x F.b dX1_kinds_1 rfl (lv_at hl 1 rfl) ?_
  refine g_calli I (g_runV (n := 1) (ci := 0) (q0 := 0) (As := [.int (x)]) (rest := []) F I (mt_isPassA l G o q (S) (x) L 99 (by exact hL) (by exact hS) _) q1292 q1294 qs34 q56 q1295 hd_mt_isPass ⟨Nat.le_of_ble_eq_true rfl, Nat.le_of_ble_eq_true rfl⟩ rfl rfl rfl rfl hl.1 rfl (lv_room (Nat.le_of_ble_eq_true rfl)) dX1_kinds_2 ⟨by first | exact Nat.le_refl _ | decide, by first | exact Nat.le_refl _ | decide⟩) (fun r u_ H locs hp I => ?_)
  obtain ⟨rfl, rfl⟩ := hp
  refine z_ne (tgt := 10) F dX1_kinds_5 (by decide) (fun c_5 => ?_) (fun c_5 => ?_)
  · obtain ⟨j, hj, rfl⟩ := pv_n hL5 c_5
    have tj : (nI j).toNatClampNeg = j := nI_clamp (by omega)
    refine lv_aload_n F.x F.b dX1_kinds_10 rfl (lv_at hl 0 rfl) ?_
    refine m_geta F I 8 (by decide) q1163 dX1_kinds_11 ?_
    refine lv_iload_n F.x F.b dX1_kinds_14 rfl (lv_at hl 1 rfl) ?_
    refine m_ld (v := ((S.2 8) (j))) F I 8 (by decide) (show j < 6 by omega) rfl dX1_kinds_15 ?_
    refine W.val (y := nI (L 8 j)) (by exact (hS.2.2.1 j hj).1) ?_
    refine lv_istore_n (lv' := [(2, .int (nI (L 8 j))), (0, .ref (o)), (1, .int (nI (j)))]) F.x F.b dX1_kinds_16 rfl hl (by decide) rfl (fun ls hl => ?_)
    refine lv_iconst (v := nI (0)) F.x F.b dX1_kinds_17 (by decide) ?_
    refine lv_istore_n (lv' := [(3, .int (nI (0))), (2, .int (nI (L 8 j))), (0, .ref (o)), (1, .int (nI (j)))]) F.x F.b dX1_kinds_18 rfl hl (by decide) rfl (fun ls hl => ?_)
    refine lv_iconst (v := nI (0)) F.x F.b dX1_kinds_19 (by decide) ?_
    refine lv_istore (lv' := [(4, .int (nI (0))), (3, .int (nI (0))), (2, .int (nI (L 8 j))), (0, .ref (o)), (1, .int (nI (j)))]) F.x F.b dX1_kinds_20 hl (by decide) rfl (fun ls hl => ?_)
    refine W_ind 22 (fun _ => []) (fun n_J => n_J) (fun n_J H locs ls => ∃ (v : Nat) (S1 : MS), n_J = 3 - v ∧ (v ≤ 3) ∧ (mC_8 j S S1) ∧  Iw G A s (mW G o q S1) H locs ∧ lv_has ls 5 [(0, .ref (o)), (1, .int (nI (j))), (2, .int (nI (L 8 j))), (3, .int (bSet (fun v => pSo (lUp L 8 j v) 99 (L 26 0)) v)), (4, .int (nI (v)))]) ?_ _ ⟨0, S, rfl, by omega, by exact mC_8.rf, I, lv_sub hl [3, 4, 2, 1, 0] rfl⟩
    intro n22 H locs ls hJ ih22
    obtain ⟨v, S1, hn22, hv, hc, I, hl⟩ := hJ
    refine lv_iload F.x F.b dX1_kinds_22 (lv_at hl 4 rfl) ?_
    refine lv_iconst (v := nI (3)) F.x F.b dX1_kinds_24 (by decide) ?_
    refine n_icmp_ge (tgt := 60) F (by omega) (by omega) dX1_kinds_25 (by decide) (fun c_25 => ?_) (fun c_25 => ?_)
    · refine lv_aload_n F.x F.b dX1_kinds_60 rfl (lv_at hl 0 rfl) ?_
      refine m_geta F I 8 (by decide) q1163 dX1_kinds_61 ?_
      refine lv_iload_n F.x F.b dX1_kinds_64 rfl (lv_at hl 1 rfl) ?_
      refine lv_iload_n F.x F.b dX1_kinds_65 rfl (lv_at hl 2 rfl) ?_
      refine m_st F I 8 (by decide) (show j < 6 by omega) dX1_kinds_66 (fun H locs (I : Iw G A s (mW G o q (S1.1, va_up S1.2 8 (upd (S1.2 8) (j) (nI (L 8 j))))) H locs) => ?_)
      refine lv_iload_n F.x F.b dX1_kinds_67 rfl (lv_at hl 3 rfl) ?_
      exact g_iret (u := (S1.1, va_up S1.2 8 (upd (S1.2 8) (j) (nI (L 8 j))))) F I (by exact ⟨by rw [aKind, if_pos c_5, tj, show v = 3 by omega], hc.done hS (by omega)⟩) dX1_kinds_68 (by first | exact Nat.le_refl _ | decide) (by first | exact Nat.le_refl _ | decide)
    · refine lv_aload_n F.x F.b dX1_kinds_28 rfl (lv_at hl 0 rfl) ?_
      refine m_geta F I 8 (by decide) q1163 dX1_kinds_29 ?_
      refine lv_iload_n F.x F.b dX1_kinds_32 rfl (lv_at hl 1 rfl) ?_
      refine lv_iload F.x F.b dX1_kinds_33 (lv_at hl 4 rfl) ?_
      refine m_st F I 8 (by decide) (show j < 6 by omega) dX1_kinds_35 (fun H locs (I : Iw G A s (mW G o q (S1.1, va_up S1.2 8 (upd (S1.2 8) (j) (nI (v))))) H locs) => ?_)
      have hSv := hc.ld (x := v) hS
      have hRv := mRd_keep hRd hc.1
      refine lv_iload_n F.x F.b dX1_kinds_36 rfl (lv_at hl 3 rfl) ?_
      refine lv_aload_n F.x F.b dX1_kinds_37 rfl (lv_at hl 0 rfl) ?_
      refine g_calli I (g_runV (n := 0) (ci := 0) (q0 := 0) (As := []) (rest := [.int (bSet (fun v => pSo (lUp L 8 j v) 99 (L 26 0)) v)]) F I (mt_areSo l G o q ((S1.1, va_up S1.2 8 (upd (S1.2 8) (j) (nI (v)))))  (lUp L 8 j v) 99 (by exact hL.up8 (by omega)) (by exact hSv) (by exact hms) (by exact hR) (by exact hRv) _) q1405 q1407 qs47 q56 q1408 hd_mt_areSo ⟨Nat.le_of_ble_eq_true rfl, Nat.le_of_ble_eq_true rfl⟩ rfl rfl rfl rfl hl.1 rfl (lv_room (Nat.le_of_ble_eq_true rfl)) dX1_kinds_38 ⟨by first | exact Nat.le_refl _ | decide, by first | exact Nat.le_refl _ | decide⟩) (fun r Z38 H locs hp I => ?_)
      obtain ⟨rfl, hq38⟩ := hp
      refine z_eq (tgt := 51) F dX1_kinds_41 (by decide) (fun c_41 => ?_) (fun c_41 => ?_)
      · refine lv_iconst (v := nI (0)) F.x F.b dX1_kinds_51 (by decide) ?_
        refine lv_ior (x := bSet (fun v => pSo (lUp L 8 j v) 99 (L 26 0)) v) (y := 0) F.x F.b dX1_kinds_52 ?_
        refine W.val (y := bSet (fun v => pSo (lUp L 8 j v) 99 (L 26 0)) (v + 1)) (by first | exact bSet_t (fun v => pSo (lUp L 8 j v) 99 (L 26 0)) v c_41 | exact bSet_n (fun v => pSo (lUp L 8 j v) 99 (L 26 0)) v c_41) ?_
        refine lv_istore_n (lv' := [(3, .int (bSet (fun v => pSo (lUp L 8 j v) 99 (L 26 0)) (v + 1))), (0, .ref (o)), (1, .int (nI (j))), (2, .int (nI (L 8 j))), (4, .int (nI (v)))]) F.x F.b dX1_kinds_53 rfl hl (by decide) rfl (fun ls hl => ?_)
        refine lv_iinc (v := nI ((v + 1))) (lv' := [(4, .int (nI ((v + 1)))), (3, .int (bSet (fun v => pSo (lUp L 8 j v) 99 (L 26 0)) (v + 1))), (0, .ref (o)), (1, .int (nI (j))), (2, .int (nI (L 8 j)))]) F.x F.b dX1_kinds_54 hl (k := 4) rfl (nI_1 (v)) (by decide) rfl (fun ls hl => ?_)
        refine lv_goto (tgt := 22) F.x F.b dX1_kinds_57 (by decide) ?_
        exact ih22 _ _ _ _ (by omega) ⟨v + 1, Z38, rfl, by omega, by exact (hc.st _).keep hq38, I, lv_sub hl [2, 3, 4, 1, 0] rfl⟩
      · refine lv_iconst (v := nI (1)) F.x F.b dX1_kinds_44 (by decide) ?_
        refine lv_iload F.x F.b dX1_kinds_45 (lv_at hl 4 rfl) ?_
        refine lv_ishl (x := 1) (y := (nI (v))) F.x F.b dX1_kinds_47 ?_
        refine lv_goto (tgt := 52) F.x F.b dX1_kinds_48 (by decide) ?_
        refine lv_ior (x := bSet (fun v => pSo (lUp L 8 j v) 99 (L 26 0)) v) (y := (1 <<< ((nI (v)) &&& 31))) F.x F.b dX1_kinds_52 ?_
        refine W.val (y := bSet (fun v => pSo (lUp L 8 j v) 99 (L 26 0)) (v + 1)) (by first | exact bSet_t (fun v => pSo (lUp L 8 j v) 99 (L 26 0)) v c_41 | exact bSet_n (fun v => pSo (lUp L 8 j v) 99 (L 26 0)) v c_41) ?_
        refine lv_istore_n (lv' := [(3, .int (bSet (fun v => pSo (lUp L 8 j v) 99 (L 26 0)) (v + 1))), (0, .ref (o)), (1, .int (nI (j))), (2, .int (nI (L 8 j))), (4, .int (nI (v)))]) F.x F.b dX1_kinds_53 rfl hl (by decide) rfl (fun ls hl => ?_)
        refine lv_iinc (v := nI ((v + 1))) (lv' := [(4, .int (nI ((v + 1)))), (3, .int (bSet (fun v => pSo (lUp L 8 j v) 99 (L 26 0)) (v + 1))), (0, .ref (o)), (1, .int (nI (j))), (2, .int (nI (L 8 j)))]) F.x F.b dX1_kinds_54 hl (k := 4) rfl (nI_1 (v)) (by decide) rfl (fun ls hl => ?_)
        refine lv_goto (tgt := 22) F.x F.b dX1_kinds_57 (by decide) ?_
        exact ih22 _ _ _ _ (by omega) ⟨v + 1, Z38, rfl, by omega, by exact (hc.st _).keep hq38, I, lv_sub hl [2, 3, 4, 1, 0] rfl⟩
  · refine lv_iconst (v := (-1)) F.x F.b dX1_kinds_8 (by decide) ?_
    exact g_iret (u := S) F I (by exact ⟨by simp [aKind, *], mKeep.rf⟩) dX1_kinds_9 (by first | exact Nat.le_refl _ | decide) (by first | exact Nat.le_refl _ | decide)

theorem hd_mt_gave : yX1_gave.cls = RX1 ∧ yX1_gave.cls ≠ "java/lang/invoke/MethodHandle" ∧ yX1_gave.cls ≠ "java/lang/invoke/VarHandle" ∧ (parseMethodDescriptor yX1_gave.desc).map (fun d => d.parameters.length) = some 2 := by decide +kernel
set_option maxHeartbeats 4000000 in
theorem mt_gave (l : Launch) (G : gG) (o : Nat) (q : Nat → Nat) (S : MS) (x : Int32) (v : Int32) (L : LD) (hL : LOk L) (hS : mLd S L 99) (hR : ROk L) (hRd : mRd S L) : gMi l yX1_gave cX1_gave 7 (some .int) ({ frames := 6, cells := 0, slots := 0, locals := 138 } : Room) G [.ref o, .int (x), .int (v)] (mW G o q S) (fun S' => mW G o q S') (fun ρ S' => aGave L x v = ρ ∧ mKeep S S') := by
  refine gMi_of (by decide) (Nat.le_of_ble_eq_true rfl) ?_
  intro p e s m below meth c ls A F I hl
  have hl : lv_has ls 7 [(0, .ref (o)), (1, .int (x)), (2, .int (v))] := hl
  have hL5 := hL.1
  have hS0 := hS
  have hms : 99 < 100 := by decide
  have hR8 := hR.1
  refine lv_iload_n F.x F.b dX1_gave_0 rfl (lv_at hl 1 rfl) ?_
  refine g_calli I (g_runS (n := 1) (As := [.int (x)]) (rest := []) F I (mt_isValley l G _ (x)   _) q1311 q1312 q56 q1313 hd_mt_isValley.2 ⟨Nat.le_of_ble_eq_true rfl, Nat.le_of_ble_eq_true rfl⟩ rfl rfl hl.1 rfl (lv_room (Nat.le_of_ble_eq_true rfl)) dX1_gave_1 ⟨by first | exact Nat.le_refl _ | decide, by first | exact Nat.le_refl _ | decide⟩) (fun r u_ H locs hp I => ?_)
  obtain rfl := hp
  refine z_ne (tgt := 9) F dX1_gave_4 (by decide) (fun c_4 => ?_) (fun c_4 => ?_)
  · obtain ⟨j, hj, rfl⟩ := wi_n (m := 2) (by decide) c_4
    have tj : (nI j).toNatClampNeg = j := nI_clamp (by omega)
    refine lv_iload_n F.x F.b dX1_gave_9 rfl (lv_at hl 2 rfl) ?_
    refine lv_iconst (v := nI (0)) F.x F.b dX1_gave_10 (by decide) ?_
    refine lv_iconst (v := nI (1)) F.x F.b dX1_gave_11 (by decide) ?_
    refine g_calli I (g_runS (n := 3) (As := [.int (v), .int (nI (0)), .int (nI (1))]) (rest := []) F I (mt_within l G _ (v) (0) (1)   _) q1250 q1251 q56 q1252 hd_mt_within.2 ⟨Nat.le_of_ble_eq_true rfl, Nat.le_of_ble_eq_true rfl⟩ rfl rfl hl.1 rfl (lv_room (Nat.le_of_ble_eq_true rfl)) dX1_gave_12 ⟨by first | exact Nat.le_refl _ | decide, by first | exact Nat.le_refl _ | decide⟩) (fun r u_ H locs hp I => ?_)
    obtain rfl := hp
    refine z_ne (tgt := 21) F dX1_gave_15 (by decide) (fun c_15 => ?_) (fun c_15 => ?_)
    · refine lv_aload_n F.x F.b dX1_gave_21 rfl (lv_at hl 0 rfl) ?_
      refine m_get (v := nI (L 5 0)) F I 5 (by decide) hS.1 q1160 dX1_gave_22 ?_
      refine n_if_ne (tgt := 31) F (by omega) dX1_gave_25 (by decide) (fun c_25 => ?_) (fun c_25 => ?_)
      · refine lv_aload_n F.x F.b dX1_gave_31 rfl (lv_at hl 0 rfl) ?_
        refine m_geta F I 7 (by decide) q1162 dX1_gave_32 ?_
        refine lv_iload_n F.x F.b dX1_gave_35 rfl (lv_at hl 1 rfl) ?_
        refine m_ld (v := ((S.2 7) (j))) F I 7 (by decide) (show j < 3 by omega) rfl dX1_gave_36 ?_
        refine W.val (y := nI (L 7 j)) (by exact hS.2.2.2.2 j (by omega)) ?_
        refine lv_istore_n (lv' := [(3, .int (nI (L 7 j))), (0, .ref (o)), (1, .int (nI (j))), (2, .int (v))]) F.x F.b dX1_gave_37 rfl hl (by decide) rfl (fun ls hl => ?_)
        refine lv_iconst (v := nI (0)) F.x F.b dX1_gave_38 (by decide) ?_
        refine lv_istore (lv' := [(4, .int (nI (0))), (3, .int (nI (L 7 j))), (0, .ref (o)), (1, .int (nI (j))), (2, .int (v))]) F.x F.b dX1_gave_39 hl (by decide) rfl (fun ls hl => ?_)
        refine lv_bipush (v := (-9)) F.x F.b dX1_gave_41 (by decide) ?_
        refine lv_istore (lv' := [(5, .int ((-9))), (4, .int (nI (0))), (3, .int (nI (L 7 j))), (0, .ref (o)), (1, .int (nI (j))), (2, .int (v))]) F.x F.b dX1_gave_43 hl (by decide) rfl (fun ls hl => ?_)
        refine lv_iconst (v := nI (0)) F.x F.b dX1_gave_45 (by decide) ?_
        refine lv_istore (lv' := [(6, .int (nI (0))), (5, .int ((-9))), (4, .int (nI (0))), (3, .int (nI (L 7 j))), (0, .ref (o)), (1, .int (nI (j))), (2, .int (v))]) F.x F.b dX1_gave_46 hl (by decide) rfl (fun ls hl => ?_)
        refine W_ind 48 (fun _ => []) (fun n_J => n_J) (fun n_J H locs ls => ∃ (sv : Nat) (S1 : MS), n_J = 256 - sv ∧ (sv ≤ 256) ∧ (mC_7 j S S1) ∧  Iw G A s (mW G o q S1) H locs ∧ lv_has ls 7 [(0, .ref (o)), (1, .int (nI (j))), (2, .int (v)), (3, .int (nI (L 7 j))), (4, .int (nI (cnt (fun s => pSo (lUp L 7 j s) 99 (L 26 0)) sv))), (5, .int (lsN (fun s => pSo (lUp L 7 j s) 99 (L 26 0)) sv)), (6, .int (nI (sv)))]) ?_ _ ⟨0, S, rfl, by omega, by exact mC_7.rf, I, lv_sub hl [4, 5, 6, 3, 2, 1, 0] rfl⟩
        intro n48 H locs ls hJ ih48
        obtain ⟨sv, S1, hn48, hn, hc, I, hl⟩ := hJ
        refine lv_iload F.x F.b dX1_gave_48 (lv_at hl 6 rfl) ?_
        refine lv_sipush (v := nI (255)) F.x F.b dX1_gave_50 (by decide) ?_
        refine n_icmp_gt (tgt := 94) F (by omega) (by omega) dX1_gave_53 (by decide) (fun c_53 => ?_) (fun c_53 => ?_)
        · refine lv_aload_n F.x F.b dX1_gave_94 rfl (lv_at hl 0 rfl) ?_
          refine m_geta F I 7 (by decide) q1162 dX1_gave_95 ?_
          refine lv_iload_n F.x F.b dX1_gave_98 rfl (lv_at hl 1 rfl) ?_
          refine lv_iload_n F.x F.b dX1_gave_99 rfl (lv_at hl 3 rfl) ?_
          refine m_st F I 7 (by decide) (show j < 3 by omega) dX1_gave_100 (fun H locs (I : Iw G A s (mW G o q (S1.1, va_up S1.2 7 (upd (S1.2 7) (j) (nI (L 7 j))))) H locs) => ?_)
          refine lv_iload_n F.x F.b dX1_gave_101 rfl (lv_at hl 2 rfl) ?_
          refine lv_if_ne (x := v) (tgt := 110) F.x F.b dX1_gave_102 (by decide) (fun c_102 => ?_) (fun c_102 => ?_)
          · refine lv_iload F.x F.b dX1_gave_110 (lv_at hl 5 rfl) ?_
            exact g_iret (u := (S1.1, va_up S1.2 7 (upd (S1.2 7) (j) (nI (L 7 j))))) F I (by exact ⟨by rw [aGave, if_pos c_4, if_pos c_15, if_neg c_25, tj, if_neg c_102, show sv = 256 by omega], hc.done hS (by omega)⟩) dX1_gave_112 (by first | exact Nat.le_refl _ | decide) (by first | exact Nat.le_refl _ | decide)
          · refine lv_iload F.x F.b dX1_gave_105 (lv_at hl 4 rfl) ?_
            refine lv_goto (tgt := 112) F.x F.b dX1_gave_107 (by decide) ?_
            exact g_iret (u := (S1.1, va_up S1.2 7 (upd (S1.2 7) (j) (nI (L 7 j))))) F I (by exact ⟨by rw [aGave, if_pos c_4, if_pos c_15, if_neg c_25, tj, if_pos c_102, show sv = 256 by omega], hc.done hS (by omega)⟩) dX1_gave_112 (by first | exact Nat.le_refl _ | decide) (by first | exact Nat.le_refl _ | decide)
        · have hcl := cnt_le (fun s => pSo (lUp L 7 j s) 99 (L 26 0)) sv
          refine lv_aload_n F.x F.b dX1_gave_56 rfl (lv_at hl 0 rfl) ?_
          refine m_geta F I 7 (by decide) q1162 dX1_gave_57 ?_
          refine lv_iload_n F.x F.b dX1_gave_60 rfl (lv_at hl 1 rfl) ?_
          refine lv_iload F.x F.b dX1_gave_61 (lv_at hl 6 rfl) ?_
          refine m_st F I 7 (by decide) (show j < 3 by omega) dX1_gave_63 (fun H locs (I : Iw G A s (mW G o q (S1.1, va_up S1.2 7 (upd (S1.2 7) (j) (nI (sv))))) H locs) => ?_)
          refine W_cut (α := Nat) (cells := 0) (slots := 0) 88 (fun _ => []) (fun _ H locs ls => ∃ (S2 : MS), ∃ (a : Nat), ∃ (b : Int32), (mC_7 j S S2) ∧ (cnt (fun s => pSo (lUp L 7 j s) 99 (L 26 0)) (sv + 1) = a) ∧ (lsN (fun s => pSo (lUp L 7 j s) 99 (L 26 0)) (sv + 1) = b) ∧ Iw G A s (mW G o q S2) H locs ∧ lv_has ls 7 [(0, .ref (o)), (1, .int (nI (j))), (2, .int (v)), (3, .int (nI (L 7 j))), (4, .int (nI (a))), (5, .int (b)), (6, .int (nI (sv)))]) (fun J88 => ?_) ?_
          · have hSv := hc.ld (x := sv) hS
            have hRv := mRd_keep hRd hc.1
            refine lv_aload_n F.x F.b dX1_gave_64 rfl (lv_at hl 0 rfl) ?_
            refine g_calli I (g_runV (n := 0) (ci := 0) (q0 := 0) (As := []) (rest := []) F I (mt_areSo l G o q ((S1.1, va_up S1.2 7 (upd (S1.2 7) (j) (nI (sv)))))  (lUp L 7 j sv) 99 (by exact hL.up7 (by omega)) (by exact hSv) (by exact hms) (by exact hR) (by exact hRv) _) q1405 q1407 qs47 q56 q1408 hd_mt_areSo ⟨Nat.le_of_ble_eq_true rfl, Nat.le_of_ble_eq_true rfl⟩ rfl rfl rfl rfl hl.1 rfl (lv_room (Nat.le_of_ble_eq_true rfl)) dX1_gave_65 ⟨by first | exact Nat.le_refl _ | decide, by first | exact Nat.le_refl _ | decide⟩) (fun r Z65 H locs hp I => ?_)
            obtain ⟨rfl, hq65⟩ := hp
            refine z_eq (tgt := 88) F dX1_gave_68 (by decide) (fun c_68 => ?_) (fun c_68 => ?_)
            · exact J88 0 _ _ _ ⟨Z65, cnt (fun s => pSo (lUp L 7 j s) 99 (L 26 0)) sv, lsN (fun s => pSo (lUp L 7 j s) 99 (L 26 0)) sv, by exact (hc.st _).keep hq65, by first | exact cnt_t _ _ c_68 | exact cnt_n _ _ c_68, by first | exact Eq.refl (lsN (fun s => pSo (lUp L 7 j s) 99 (L 26 0)) (sv + 1)) | exact lsN_n _ _ c_68, I, lv_sub hl [0, 1, 2, 3, 4, 5, 6] rfl⟩
            · refine lv_iload F.x F.b dX1_gave_71 (lv_at hl 4 rfl) ?_
              refine n_if_ne (tgt := 81) F (by omega) dX1_gave_73 (by decide) (fun c_73 => ?_) (fun c_73 => ?_)
              · refine lv_iload F.x F.b dX1_gave_81 (lv_at hl 5 rfl) ?_
                refine W.val (y := lsN (fun s => pSo (lUp L 7 j s) 99 (L 26 0)) (sv + 1)) (by exact (lsN_u (fun s => pSo (lUp L 7 j s) 99 (L 26 0)) _ c_68 c_73).symm) ?_
                refine lv_istore (lv' := [(5, .int (lsN (fun s => pSo (lUp L 7 j s) 99 (L 26 0)) (sv + 1))), (0, .ref (o)), (1, .int (nI (j))), (2, .int (v)), (3, .int (nI (L 7 j))), (4, .int (nI (cnt (fun s => pSo (lUp L 7 j s) 99 (L 26 0)) sv))), (6, .int (nI (sv)))]) F.x F.b dX1_gave_83 hl (by decide) rfl (fun ls hl => ?_)
                refine lv_iinc (v := nI ((cnt (fun s => pSo (lUp L 7 j s) 99 (L 26 0)) sv + 1))) (lv' := [(4, .int (nI ((cnt (fun s => pSo (lUp L 7 j s) 99 (L 26 0)) sv + 1)))), (5, .int (lsN (fun s => pSo (lUp L 7 j s) 99 (L 26 0)) (sv + 1))), (0, .ref (o)), (1, .int (nI (j))), (2, .int (v)), (3, .int (nI (L 7 j))), (6, .int (nI (sv)))]) F.x F.b dX1_gave_85 hl (k := 5) rfl (nI_1 (cnt (fun s => pSo (lUp L 7 j s) 99 (L 26 0)) sv)) (by decide) rfl (fun ls hl => ?_)
                exact J88 0 _ _ _ ⟨Z65, (cnt (fun s => pSo (lUp L 7 j s) 99 (L 26 0)) sv + 1), lsN (fun s => pSo (lUp L 7 j s) 99 (L 26 0)) (sv + 1), by exact (hc.st _).keep hq65, by first | exact cnt_t _ _ c_68 | exact cnt_n _ _ c_68, by first | exact Eq.refl (lsN (fun s => pSo (lUp L 7 j s) 99 (L 26 0)) (sv + 1)) | exact lsN_n _ _ c_68, I, lv_sub hl [2, 3, 4, 5, 0, 1, 6] rfl⟩
              · refine lv_iload F.x F.b dX1_gave_76 (lv_at hl 6 rfl) ?_
                refine lv_goto (tgt := 83) F.x F.b dX1_gave_78 (by decide) ?_
                refine W.val (y := lsN (fun s => pSo (lUp L 7 j s) 99 (L 26 0)) (sv + 1)) (by exact (lsN_t (fun s => pSo (lUp L 7 j s) 99 (L 26 0)) _ c_68 c_73).symm) ?_
                refine lv_istore (lv' := [(5, .int (lsN (fun s => pSo (lUp L 7 j s) 99 (L 26 0)) (sv + 1))), (0, .ref (o)), (1, .int (nI (j))), (2, .int (v)), (3, .int (nI (L 7 j))), (4, .int (nI (cnt (fun s => pSo (lUp L 7 j s) 99 (L 26 0)) sv))), (6, .int (nI (sv)))]) F.x F.b dX1_gave_83 hl (by decide) rfl (fun ls hl => ?_)
                refine lv_iinc (v := nI ((cnt (fun s => pSo (lUp L 7 j s) 99 (L 26 0)) sv + 1))) (lv' := [(4, .int (nI ((cnt (fun s => pSo (lUp L 7 j s) 99 (L 26 0)) sv + 1)))), (5, .int (lsN (fun s => pSo (lUp L 7 j s) 99 (L 26 0)) (sv + 1))), (0, .ref (o)), (1, .int (nI (j))), (2, .int (v)), (3, .int (nI (L 7 j))), (6, .int (nI (sv)))]) F.x F.b dX1_gave_85 hl (k := 5) rfl (nI_1 (cnt (fun s => pSo (lUp L 7 j s) 99 (L 26 0)) sv)) (by decide) rfl (fun ls hl => ?_)
                exact J88 0 _ _ _ ⟨Z65, (cnt (fun s => pSo (lUp L 7 j s) 99 (L 26 0)) sv + 1), lsN (fun s => pSo (lUp L 7 j s) 99 (L 26 0)) (sv + 1), by exact (hc.st _).keep hq65, by first | exact cnt_t _ _ c_68 | exact cnt_n _ _ c_68, by first | exact Eq.refl (lsN (fun s => pSo (lUp L 7 j s) 99 (L 26 0)) (sv + 1)) | exact lsN_n _ _ c_68, I, lv_sub hl [2, 3, 4, 5, 0, 1, 6] rfl⟩
          · intro _ H locs ls hJ
            obtain ⟨S2, a, b, hc, ha, hb, I, hl⟩ := hJ
            subst ha
            subst hb
            refine lv_iinc (v := nI ((sv + 1))) (lv' := [(6, .int (nI ((sv + 1)))), (0, .ref (o)), (1, .int (nI (j))), (2, .int (v)), (3, .int (nI (L 7 j))), (4, .int (nI (cnt (fun s => pSo (lUp L 7 j s) 99 (L 26 0)) (sv + 1)))), (5, .int (lsN (fun s => pSo (lUp L 7 j s) 99 (L 26 0)) (sv + 1)))]) F.x F.b dX1_gave_88 hl (k := 6) rfl (nI_1 (sv)) (by decide) rfl (fun ls hl => ?_)
            refine lv_goto (tgt := 48) F.x F.b dX1_gave_91 (by decide) ?_
            exact ih48 _ _ _ _ (by omega) ⟨sv + 1, S2, rfl, by omega, by exact hc, I, lv_sub hl [1, 2, 3, 4, 5, 6, 0] rfl⟩
      · refine lv_bipush (v := (-3)) F.x F.b dX1_gave_28 (by decide) ?_
        exact g_iret (u := S) F I (by exact ⟨by simp [aGave, *], mKeep.rf⟩) dX1_gave_30 (by first | exact Nat.le_refl _ | decide) (by first | exact Nat.le_refl _ | decide)
    · refine lv_bipush (v := (-2)) F.x F.b dX1_gave_18 (by decide) ?_
      exact g_iret (u := S) F I (by exact ⟨by simp [aGave, *], mKeep.rf⟩) dX1_gave_20 (by first | exact Nat.le_refl _ | decide) (by first | exact Nat.le_refl _ | decide)
  · refine lv_iconst (v := (-1)) F.x F.b dX1_gave_7 (by decide) ?_
    exact g_iret (u := S) F I (by exact ⟨by simp [aGave, *], mKeep.rf⟩) dX1_gave_8 (by first | exact Nat.le_refl _ | decide) (by first | exact Nat.le_refl _ | decide)

theorem hd_mt_allGive : yX1_allGive.cls = RX1 ∧ yX1_allGive.cls ≠ "java/lang/invoke/MethodHandle" ∧ yX1_allGive.cls ≠ "java/lang/invoke/VarHandle" ∧ (parseMethodDescriptor yX1_allGive.desc).map (fun d => d.parameters.length) = some 0 := by decide +kernel
set_option maxHeartbeats 4000000 in
theorem mt_allGive (l : Launch) (G : gG) (o : Nat) (q : Nat → Nat) (S : MS)  (L : LD) (hL : LOk L) (hS : mLd S L 99) : gMi l yX1_allGive cX1_allGive 3 (some .int) ({ frames := 1, cells := 0, slots := 0, locals := 22 } : Room) G [.ref o] (mW G o q S) (fun S' => mW G o q S') (fun ρ S' => nI (cnt (gAll L) 8) = ρ ∧ S = S') := by
  refine gMi_of (by decide) (Nat.le_of_ble_eq_true rfl) ?_
  intro p e s m below meth c ls A F I hl
  have hl : lv_has ls 3 [(0, .ref (o))] := hl
  have hL5 := hL.1
  have hS0 := hS
  have hms : 99 < 100 := by decide
  refine lv_iconst (v := nI (0)) F.x F.b dX1_allGive_0 (by decide) ?_
  refine lv_istore_n (lv' := [(1, .int (nI (0))), (0, .ref (o))]) F.x F.b dX1_allGive_1 rfl hl (by decide) rfl (fun ls hl => ?_)
  refine lv_iconst (v := nI (0)) F.x F.b dX1_allGive_2 (by decide) ?_
  refine lv_istore_n (lv' := [(2, .int (nI (0))), (1, .int (nI (0))), (0, .ref (o))]) F.x F.b dX1_allGive_3 rfl hl (by decide) rfl (fun ls hl => ?_)
  refine W_ind 4 (fun _ => []) (fun n_J => n_J) (fun n_J H locs ls => ∃ (k : Nat), n_J = 8 - k ∧ (k ≤ 8) ∧  Iw G A s (mW G o q S) H locs ∧ lv_has ls 3 [(0, .ref (o)), (1, .int (nI (cnt (gAll L) k))), (2, .int (nI (k)))]) ?_ _ ⟨0, rfl, by omega, I, lv_sub hl [2, 1, 0] rfl⟩
  intro n4 H locs ls hJ ih4
  obtain ⟨k, hn4, hk, I, hl⟩ := hJ
  refine lv_iload_n F.x F.b dX1_allGive_4 rfl (lv_at hl 2 rfl) ?_
  refine lv_bipush (v := nI (8)) F.x F.b dX1_allGive_5 (by decide) ?_
  refine n_icmp_ge (tgt := 51) F (by omega) (by omega) dX1_allGive_7 (by decide) (fun c_7 => ?_) (fun c_7 => ?_)
  · refine lv_iload_n F.x F.b dX1_allGive_51 rfl (lv_at hl 1 rfl) ?_
    exact g_iret (u := S) F I (by exact ⟨by rw [show k = 8 by omega], rfl⟩) dX1_allGive_52 (by first | exact Nat.le_refl _ | decide) (by first | exact Nat.le_refl _ | decide)
  · refine lv_iload_n F.x F.b dX1_allGive_10 rfl (lv_at hl 1 rfl) ?_
    refine lv_aload_n F.x F.b dX1_allGive_11 rfl (lv_at hl 0 rfl) ?_
    refine lv_iconst (v := nI (0)) F.x F.b dX1_allGive_12 (by decide) ?_
    refine lv_iload_n F.x F.b dX1_allGive_13 rfl (lv_at hl 2 rfl) ?_
    refine g_calli I (g_runV (n := 2) (ci := 0) (q0 := 0) (As := [.int (nI (0)), .int (nI (k))]) (rest := [.int (nI (cnt (gAll L) k))]) F I (mt_doesGiveA l G o q (S) (0) (k) L 99 (by exact hL) (by exact hS) (by omega) (by omega) _) q1334 q1336 qs39 q56 q1337 hd_mt_doesGive ⟨Nat.le_of_ble_eq_true rfl, Nat.le_of_ble_eq_true rfl⟩ rfl rfl rfl rfl hl.1 rfl (lv_room (Nat.le_of_ble_eq_true rfl)) dX1_allGive_14 ⟨by first | exact Nat.le_refl _ | decide, by first | exact Nat.le_refl _ | decide⟩) (fun r u_ H locs hp I => ?_)
    obtain ⟨rfl, rfl⟩ := hp
    refine z_eq (tgt := 42) F dX1_allGive_17 (by decide) (fun c_17 => ?_) (fun c_17 => ?_)
    · refine lv_iconst (v := nI (0)) F.x F.b dX1_allGive_42 (by decide) ?_
      refine n_iadd F dX1_allGive_43 ?_
      refine W.val (y := nI (cnt (gAll L) (k + 1))) (by rw [cnt, if_neg (by simp [gAll, *])]; rfl) ?_
      refine lv_istore_n (lv' := [(1, .int (nI (cnt (gAll L) (k + 1)))), (0, .ref (o)), (2, .int (nI (k)))]) F.x F.b dX1_allGive_44 rfl hl (by decide) rfl (fun ls hl => ?_)
      refine lv_iinc (v := nI ((k + 1))) (lv' := [(2, .int (nI ((k + 1)))), (1, .int (nI (cnt (gAll L) (k + 1)))), (0, .ref (o))]) F.x F.b dX1_allGive_45 hl (k := 2) rfl (nI_1 (k)) (by decide) rfl (fun ls hl => ?_)
      refine lv_goto (tgt := 4) F.x F.b dX1_allGive_48 (by decide) ?_
      exact ih4 _ _ _ _ (by omega) ⟨k + 1, rfl, by omega, I, lv_sub hl [2, 1, 0] rfl⟩
    · refine lv_aload_n F.x F.b dX1_allGive_20 rfl (lv_at hl 0 rfl) ?_
      refine lv_iconst (v := nI (1)) F.x F.b dX1_allGive_21 (by decide) ?_
      refine lv_iload_n F.x F.b dX1_allGive_22 rfl (lv_at hl 2 rfl) ?_
      refine g_calli I (g_runV (n := 2) (ci := 0) (q0 := 0) (As := [.int (nI (1)), .int (nI (k))]) (rest := [.int (nI (cnt (gAll L) k))]) F I (mt_doesGiveA l G o q (S) (1) (k) L 99 (by exact hL) (by exact hS) (by omega) (by omega) _) q1334 q1336 qs39 q56 q1337 hd_mt_doesGive ⟨Nat.le_of_ble_eq_true rfl, Nat.le_of_ble_eq_true rfl⟩ rfl rfl rfl rfl hl.1 rfl (lv_room (Nat.le_of_ble_eq_true rfl)) dX1_allGive_23 ⟨by first | exact Nat.le_refl _ | decide, by first | exact Nat.le_refl _ | decide⟩) (fun r u_ H locs hp I => ?_)
      obtain ⟨rfl, rfl⟩ := hp
      refine z_eq (tgt := 42) F dX1_allGive_26 (by decide) (fun c_26 => ?_) (fun c_26 => ?_)
      · refine lv_iconst (v := nI (0)) F.x F.b dX1_allGive_42 (by decide) ?_
        refine n_iadd F dX1_allGive_43 ?_
        refine W.val (y := nI (cnt (gAll L) (k + 1))) (by rw [cnt, if_neg (by simp [gAll, *])]; rfl) ?_
        refine lv_istore_n (lv' := [(1, .int (nI (cnt (gAll L) (k + 1)))), (0, .ref (o)), (2, .int (nI (k)))]) F.x F.b dX1_allGive_44 rfl hl (by decide) rfl (fun ls hl => ?_)
        refine lv_iinc (v := nI ((k + 1))) (lv' := [(2, .int (nI ((k + 1)))), (1, .int (nI (cnt (gAll L) (k + 1)))), (0, .ref (o))]) F.x F.b dX1_allGive_45 hl (k := 2) rfl (nI_1 (k)) (by decide) rfl (fun ls hl => ?_)
        refine lv_goto (tgt := 4) F.x F.b dX1_allGive_48 (by decide) ?_
        exact ih4 _ _ _ _ (by omega) ⟨k + 1, rfl, by omega, I, lv_sub hl [2, 1, 0] rfl⟩
      · refine lv_aload_n F.x F.b dX1_allGive_29 rfl (lv_at hl 0 rfl) ?_
        refine lv_iconst (v := nI (2)) F.x F.b dX1_allGive_30 (by decide) ?_
        refine lv_iload_n F.x F.b dX1_allGive_31 rfl (lv_at hl 2 rfl) ?_
        refine g_calli I (g_runV (n := 2) (ci := 0) (q0 := 0) (As := [.int (nI (2)), .int (nI (k))]) (rest := [.int (nI (cnt (gAll L) k))]) F I (mt_doesGiveA l G o q (S) (2) (k) L 99 (by exact hL) (by exact hS) (by omega) (by omega) _) q1334 q1336 qs39 q56 q1337 hd_mt_doesGive ⟨Nat.le_of_ble_eq_true rfl, Nat.le_of_ble_eq_true rfl⟩ rfl rfl rfl rfl hl.1 rfl (lv_room (Nat.le_of_ble_eq_true rfl)) dX1_allGive_32 ⟨by first | exact Nat.le_refl _ | decide, by first | exact Nat.le_refl _ | decide⟩) (fun r u_ H locs hp I => ?_)
        obtain ⟨rfl, rfl⟩ := hp
        refine z_eq (tgt := 42) F dX1_allGive_35 (by decide) (fun c_35 => ?_) (fun c_35 => ?_)
        · refine lv_iconst (v := nI (0)) F.x F.b dX1_allGive_42 (by decide) ?_
          refine n_iadd F dX1_allGive_43 ?_
          refine W.val (y := nI (cnt (gAll L) (k + 1))) (by rw [cnt, if_neg (by simp [gAll, *])]; rfl) ?_
          refine lv_istore_n (lv' := [(1, .int (nI (cnt (gAll L) (k + 1)))), (0, .ref (o)), (2, .int (nI (k)))]) F.x F.b dX1_allGive_44 rfl hl (by decide) rfl (fun ls hl => ?_)
          refine lv_iinc (v := nI ((k + 1))) (lv' := [(2, .int (nI ((k + 1)))), (1, .int (nI (cnt (gAll L) (k + 1)))), (0, .ref (o))]) F.x F.b dX1_allGive_45 hl (k := 2) rfl (nI_1 (k)) (by decide) rfl (fun ls hl => ?_)
          refine lv_goto (tgt := 4) F.x F.b dX1_allGive_48 (by decide) ?_
          exact ih4 _ _ _ _ (by omega) ⟨k + 1, rfl, by omega, I, lv_sub hl [2, 1, 0] rfl⟩
        · refine lv_iconst (v := nI (1)) F.x F.b dX1_allGive_38 (by decide) ?_
          refine lv_goto (tgt := 43) F.x F.b dX1_allGive_39 (by decide) ?_
          refine n_iadd F dX1_allGive_43 ?_
          refine W.val (y := nI (cnt (gAll L) (k + 1))) (by rw [cnt, if_pos (by simp [gAll, *])]) ?_
          refine lv_istore_n (lv' := [(1, .int (nI (cnt (gAll L) (k + 1)))), (0, .ref (o)), (2, .int (nI (k)))]) F.x F.b dX1_allGive_44 rfl hl (by decide) rfl (fun ls hl => ?_)
          refine lv_iinc (v := nI ((k + 1))) (lv' := [(2, .int (nI ((k + 1)))), (1, .int (nI (cnt (gAll L) (k + 1)))), (0, .ref (o))]) F.x F.b dX1_allGive_45 hl (k := 2) rfl (nI_1 (k)) (by decide) rfl (fun ls hl => ?_)
          refine lv_goto (tgt := 4) F.x F.b dX1_allGive_48 (by decide) ?_
          exact ih4 _ _ _ _ (by omega) ⟨k + 1, rfl, by omega, I, lv_sub hl [2, 1, 0] rfl⟩

theorem hd_mt_many : yX1_many.cls = RX1 ∧ yX1_many.cls ≠ "java/lang/invoke/MethodHandle" ∧ yX1_many.cls ≠ "java/lang/invoke/VarHandle" ∧ (parseMethodDescriptor yX1_many.desc).map (fun d => d.parameters.length) = some 1 := by decide +kernel
set_option maxHeartbeats 4000000 in
theorem mt_many (l : Launch) (G : gG) (o : Nat) (q : Nat → Nat) (S : MS) (x : Int32) (L : LD) (hL : LOk L) (hS : mLd S L 99) (hR : ROk L) (hRd : mRd S L) : gMi l yX1_many cX1_many 2 (some .int) ({ frames := 2, cells := 0, slots := 0, locals := 44 } : Room) G [.ref o, .int (x)] (mW G o q S) (fun S' => mW G o q S') (fun ρ S' => aMany L x = ρ ∧ mKeep S S') := by
  refine gMi_of (by decide) (Nat.le_of_ble_eq_true rfl) ?_
  intro p e s m below meth c ls A F I hl
  have hl : lv_has ls 2 [(0, .ref (o)), (1, .int (x))] := hl
  have hL5 := hL.1
  have hS0 := hS
  have hms : 99 < 100 := by decide
  refine lv_iload_n F.x F.b dX1_many_0 rfl (lv_at hl 1 rfl) ?_
  refine lv_if_ne (x := x) (tgt := 11) F.x F.b dX1_many_1 (by decide) (fun c_1 => ?_) (fun c_1 => ?_)
  · refine lv_iload_n F.x F.b dX1_many_11 rfl (lv_at hl 1 rfl) ?_
    refine lv_iconst (v := nI (1)) F.x F.b dX1_many_12 (by decide) ?_
    refine lv_icmp_ne (x := x) (y := 1) (tgt := 23) F.x F.b dX1_many_13 (by decide) (fun c_13 => ?_) (fun c_13 => ?_)
    · refine lv_iload_n F.x F.b dX1_many_23 rfl (lv_at hl 1 rfl) ?_
      refine lv_iconst (v := nI (2)) F.x F.b dX1_many_24 (by decide) ?_
      refine lv_icmp_ne (x := x) (y := 2) (tgt := 35) F.x F.b dX1_many_25 (by decide) (fun c_25 => ?_) (fun c_25 => ?_)
      · refine lv_bipush (v := (-2)) F.x F.b dX1_many_35 (by decide) ?_
        exact g_iret (u := S) F I (by exact ⟨by simp [aMany, *], mKeep.rf⟩) dX1_many_37 (by first | exact Nat.le_refl _ | decide) (by first | exact Nat.le_refl _ | decide)
      · refine lv_aload_n F.x F.b dX1_many_28 rfl (lv_at hl 0 rfl) ?_
        refine m_get (v := (S.1 26)) F I 26 (by decide) rfl q1181 dX1_many_29 ?_
        refine W.val (y := nI (L 26 0)) (by exact hRd.1) ?_
        refine lv_goto (tgt := 37) F.x F.b dX1_many_32 (by decide) ?_
        exact g_iret (u := S) F I (by exact ⟨by simp [aMany, *], mKeep.rf⟩) dX1_many_37 (by first | exact Nat.le_refl _ | decide) (by first | exact Nat.le_refl _ | decide)
    · refine lv_aload_n F.x F.b dX1_many_16 rfl (lv_at hl 0 rfl) ?_
      refine g_calli I (g_runV (n := 0) (ci := 0) (q0 := 0) (As := []) (rest := []) F I (mt_allGive l G o q (S)  L (by exact hL) (by exact hS) _) q1481 q1483 qs50 q56 q1484 hd_mt_allGive ⟨Nat.le_of_ble_eq_true rfl, Nat.le_of_ble_eq_true rfl⟩ rfl rfl rfl rfl hl.1 rfl (lv_room (Nat.le_of_ble_eq_true rfl)) dX1_many_17 ⟨by first | exact Nat.le_refl _ | decide, by first | exact Nat.le_refl _ | decide⟩) (fun r u_ H locs hp I => ?_)
      obtain ⟨rfl, rfl⟩ := hp
      refine lv_goto (tgt := 37) F.x F.b dX1_many_20 (by decide) ?_
      exact g_iret (u := S) F I (by exact ⟨by simp [aMany, *], mKeep.rf⟩) dX1_many_37 (by first | exact Nat.le_refl _ | decide) (by first | exact Nat.le_refl _ | decide)
  · refine lv_aload_n F.x F.b dX1_many_4 rfl (lv_at hl 0 rfl) ?_
    refine m_get (v := nI (L 5 0)) F I 5 (by decide) hS.1 q1160 dX1_many_5 ?_
    refine lv_goto (tgt := 37) F.x F.b dX1_many_8 (by decide) ?_
    exact g_iret (u := S) F I (by exact ⟨by simp [aMany, *], mKeep.rf⟩) dX1_many_37 (by first | exact Nat.le_refl _ | decide) (by first | exact Nat.le_refl _ | decide)

theorem hd_mt_tell : yX1_tell.cls = RX1 ∧ yX1_tell.cls ≠ "java/lang/invoke/MethodHandle" ∧ yX1_tell.cls ≠ "java/lang/invoke/VarHandle" ∧ (parseMethodDescriptor yX1_tell.desc).map (fun d => d.parameters.length) = some 1 := by decide +kernel
set_option maxHeartbeats 4000000 in
theorem mt_tell (l : Launch) (G : gG) (o : Nat) (q : Nat → Nat) (S : MS) (x : Int32) (L : LD) (hL : LOk L) (hS : mLd S L 99) : gMi l yX1_tell cX1_tell 3 (some .int) ({ frames := 1, cells := 0, slots := 0, locals := 21 } : Room) G [.ref o, .int (x)] (mW G o q S) (fun S' => mW G o q S') (fun ρ S' => aTell L x = ρ ∧ S'.1 1 = tTell L x (S.1 1) ∧ mKeep (va_up S'.1 1 (S.1 1), S'.2) S) := by
  refine gMi_of (by decide) (Nat.le_of_ble_eq_true rfl) ?_
  intro p e s m below meth c ls A F I hl
  have hl : lv_has ls 3 [(0, .ref (o)), (1, .int (x))] := hl
  have hL5 := hL.1
  have hS0 := hS
  have hms : 99 < 100 := by decide
  refine lv_aload_n F.x F.b dX1_tell_0 rfl (lv_at hl 0 rfl) ?_
  refine lv_iload_n F.x F.b dX1_tell_1 rfl (lv_at hl 1 rfl) ?_
  refine g_calli I (g_runV (n := 1) (ci := 0) (q0 := 0) (As := [.int (x)]) (rest := []) F I (mt_isPassA l G o q (S) (x) L 99 (by exact hL) (by exact hS) _) q1292 q1294 qs34 q56 q1295 hd_mt_isPass ⟨Nat.le_of_ble_eq_true rfl, Nat.le_of_ble_eq_true rfl⟩ rfl rfl rfl rfl hl.1 rfl (lv_room (Nat.le_of_ble_eq_true rfl)) dX1_tell_2 ⟨by first | exact Nat.le_refl _ | decide, by first | exact Nat.le_refl _ | decide⟩) (fun r u_ H locs hp I => ?_)
  obtain ⟨rfl, rfl⟩ := hp
  refine z_ne (tgt := 10) F dX1_tell_5 (by decide) (fun c_5 => ?_) (fun c_5 => ?_)
  · obtain ⟨j, hj, rfl⟩ := pv_n hL5 c_5
    have tj : (nI j).toNatClampNeg = j := nI_clamp (by omega)
    have hj6 : j < 6 := by omega
    have hld := hS.2.2.1 j hj
    have hlo := hL.2.1 j hj
    refine lv_aload_n F.x F.b dX1_tell_10 rfl (lv_at hl 0 rfl) ?_
    refine m_geta F I 12 (by decide) q1167 dX1_tell_11 ?_
    refine lv_iload_n F.x F.b dX1_tell_14 rfl (lv_at hl 1 rfl) ?_
    refine m_ld (v := ((S.2 12) (j))) F I 12 (by decide) (show j < 6 by omega) rfl dX1_tell_15 ?_
    refine W.val (y := nI (L 12 j)) (by exact hld.2.2.2.2) ?_
    refine lv_istore_n (lv' := [(2, .int (nI (L 12 j))), (0, .ref (o)), (1, .int (nI (j)))]) F.x F.b dX1_tell_16 rfl hl (by decide) rfl (fun ls hl => ?_)
    refine lv_aload_n F.x F.b dX1_tell_17 rfl (lv_at hl 1 rfl) ?_
    refine m_geta F I 8 (by decide) q1163 dX1_tell_18 ?_
    refine lv_iload_n F.x F.b dX1_tell_21 rfl (lv_at hl 2 rfl) ?_
    refine m_ld (v := ((S.2 8) (j))) F I 8 (by decide) (show j < 6 by omega) rfl dX1_tell_22 ?_
    rcases (show L 8 j = 0 ∨ L 8 j = 1 ∨ L 8 j = 2 by omega) with hk8 | hk8 | hk8
    · refine W.val (y := nI 0) (by rw [hld.1, hk8]) ?_
      refine lv_lookup (off := 67) (tgt := 90) F.x F.b dX1_tell_23 (by decide) (by decide) (by decide) ?_
      refine lv_aload_n F.x F.b dX1_tell_90 rfl (lv_at hl 1 rfl) ?_
      refine lv_iconst (v := nI (1)) F.x F.b dX1_tell_91 (by decide) ?_
      refine g_callv I (g_runV (n := 1) (ci := 0) (q0 := 0) (As := [.int (nI (1))]) (rest := []) F I (mt_begins l G o q (S) (1)   _) q1457 q1459 qs49 q56 q1460 hd_mt_begins ⟨Nat.le_of_ble_eq_true rfl, Nat.le_of_ble_eq_true rfl⟩ rfl rfl rfl rfl hl.1 rfl (lv_room (Nat.le_of_ble_eq_true rfl)) dX1_tell_92 ⟨by first | exact Nat.le_refl _ | decide, by first | exact Nat.le_refl _ | decide⟩) (fun u_ H locs hp I => ?_)
      obtain rfl := hp
      refine lv_iload_n F.x F.b dX1_tell_95 rfl (lv_at hl 0 rfl) ?_
      exact g_iret (u := (va_up S.1 1 (31 * ((S.1 1)) + 1), S.2)) F I (by exact ⟨by simp [aTell, *], by simp [tTell, *, va_up], by exact ⟨rfl, rfl, rfl, rfl, rfl, rfl, rfl, rfl, rfl, rfl, rfl, rfl, rfl, rfl, rfl, rfl, rfl⟩⟩) dX1_tell_96 (by first | exact Nat.le_refl _ | decide) (by first | exact Nat.le_refl _ | decide)
    · refine W.val (y := nI 1) (by rw [hld.1, hk8]) ?_
      refine lv_lookup (off := 25) (tgt := 48) F.x F.b dX1_tell_23 (by decide) (by decide) (by decide) ?_
      refine lv_aload_n F.x F.b dX1_tell_48 rfl (lv_at hl 1 rfl) ?_
      refine lv_iconst (v := nI (2)) F.x F.b dX1_tell_49 (by decide) ?_
      refine g_callv I (g_runV (n := 1) (ci := 0) (q0 := 0) (As := [.int (nI (2))]) (rest := []) F I (mt_begins l G o q (S) (2)   _) q1457 q1459 qs49 q56 q1460 hd_mt_begins ⟨Nat.le_of_ble_eq_true rfl, Nat.le_of_ble_eq_true rfl⟩ rfl rfl rfl rfl hl.1 rfl (lv_room (Nat.le_of_ble_eq_true rfl)) dX1_tell_50 ⟨by first | exact Nat.le_refl _ | decide, by first | exact Nat.le_refl _ | decide⟩) (fun u_ H locs hp I => ?_)
      obtain rfl := hp
      refine lv_aload_n F.x F.b dX1_tell_53 rfl (lv_at hl 1 rfl) ?_
      refine lv_iconst (v := nI (1)) F.x F.b dX1_tell_54 (by decide) ?_
      refine g_callv I (g_runV (n := 1) (ci := 0) (q0 := 0) (As := [.int (nI (1))]) (rest := []) F I (mt_begins l G o q ((va_up S.1 1 (31 * ((S.1 1)) + 2), S.2)) (1)   _) q1457 q1459 qs49 q56 q1460 hd_mt_begins ⟨Nat.le_of_ble_eq_true rfl, Nat.le_of_ble_eq_true rfl⟩ rfl rfl rfl rfl hl.1 rfl (lv_room (Nat.le_of_ble_eq_true rfl)) dX1_tell_55 ⟨by first | exact Nat.le_refl _ | decide, by first | exact Nat.le_refl _ | decide⟩) (fun u_ H locs hp I => ?_)
      obtain rfl := hp
      refine lv_iload_n F.x F.b dX1_tell_58 rfl (lv_at hl 0 rfl) ?_
      refine lv_bipush (v := nI (100)) F.x F.b dX1_tell_59 (by decide) ?_
      refine n_iadd F dX1_tell_61 ?_
      exact g_iret (u := (va_up (va_up S.1 1 (31 * ((S.1 1)) + 2)) 1 (31 * (31 * ((S.1 1)) + 2) + 1), S.2)) F I (by exact ⟨by simp [aTell, *], by simp [tTell, *, va_up], by exact ⟨rfl, rfl, rfl, rfl, rfl, rfl, rfl, rfl, rfl, rfl, rfl, rfl, rfl, rfl, rfl, rfl, rfl⟩⟩) dX1_tell_62 (by first | exact Nat.le_refl _ | decide) (by first | exact Nat.le_refl _ | decide)
    · refine W.val (y := nI 2) (by rw [hld.1, hk8]) ?_
      refine lv_lookup (off := 40) (tgt := 63) F.x F.b dX1_tell_23 (by decide) (by decide) (by decide) ?_
      refine lv_aload_n F.x F.b dX1_tell_63 rfl (lv_at hl 1 rfl) ?_
      refine lv_iconst (v := nI (3)) F.x F.b dX1_tell_64 (by decide) ?_
      refine g_callv I (g_runV (n := 1) (ci := 0) (q0 := 0) (As := [.int (nI (3))]) (rest := []) F I (mt_begins l G o q (S) (3)   _) q1457 q1459 qs49 q56 q1460 hd_mt_begins ⟨Nat.le_of_ble_eq_true rfl, Nat.le_of_ble_eq_true rfl⟩ rfl rfl rfl rfl hl.1 rfl (lv_room (Nat.le_of_ble_eq_true rfl)) dX1_tell_65 ⟨by first | exact Nat.le_refl _ | decide, by first | exact Nat.le_refl _ | decide⟩) (fun u_ H locs hp I => ?_)
      obtain rfl := hp
      refine lv_aload_n F.x F.b dX1_tell_68 rfl (lv_at hl 1 rfl) ?_
      refine lv_iconst (v := nI (2)) F.x F.b dX1_tell_69 (by decide) ?_
      refine g_callv I (g_runV (n := 1) (ci := 0) (q0 := 0) (As := [.int (nI (2))]) (rest := []) F I (mt_begins l G o q ((va_up S.1 1 (31 * ((S.1 1)) + 3), S.2)) (2)   _) q1457 q1459 qs49 q56 q1460 hd_mt_begins ⟨Nat.le_of_ble_eq_true rfl, Nat.le_of_ble_eq_true rfl⟩ rfl rfl rfl rfl hl.1 rfl (lv_room (Nat.le_of_ble_eq_true rfl)) dX1_tell_70 ⟨by first | exact Nat.le_refl _ | decide, by first | exact Nat.le_refl _ | decide⟩) (fun u_ H locs hp I => ?_)
      obtain rfl := hp
      refine lv_aload_n F.x F.b dX1_tell_73 rfl (lv_at hl 1 rfl) ?_
      refine lv_iconst (v := nI (1)) F.x F.b dX1_tell_74 (by decide) ?_
      refine g_callv I (g_runV (n := 1) (ci := 0) (q0 := 0) (As := [.int (nI (1))]) (rest := []) F I (mt_begins l G o q ((va_up (va_up S.1 1 (31 * ((S.1 1)) + 3)) 1 (31 * (31 * ((S.1 1)) + 3) + 2), S.2)) (1)   _) q1457 q1459 qs49 q56 q1460 hd_mt_begins ⟨Nat.le_of_ble_eq_true rfl, Nat.le_of_ble_eq_true rfl⟩ rfl rfl rfl rfl hl.1 rfl (lv_room (Nat.le_of_ble_eq_true rfl)) dX1_tell_75 ⟨by first | exact Nat.le_refl _ | decide, by first | exact Nat.le_refl _ | decide⟩) (fun u_ H locs hp I => ?_)
      obtain rfl := hp
      refine lv_aload_n F.x F.b dX1_tell_78 rfl (lv_at hl 1 rfl) ?_
      refine lv_iconst (v := nI (1)) F.x F.b dX1_tell_79 (by decide) ?_
      refine g_callv I (g_runV (n := 1) (ci := 0) (q0 := 0) (As := [.int (nI (1))]) (rest := []) F I (mt_begins l G o q ((va_up (va_up (va_up S.1 1 (31 * ((S.1 1)) + 3)) 1 (31 * (31 * ((S.1 1)) + 3) + 2)) 1 (31 * (31 * (31 * ((S.1 1)) + 3) + 2) + 1), S.2)) (1)   _) q1457 q1459 qs49 q56 q1460 hd_mt_begins ⟨Nat.le_of_ble_eq_true rfl, Nat.le_of_ble_eq_true rfl⟩ rfl rfl rfl rfl hl.1 rfl (lv_room (Nat.le_of_ble_eq_true rfl)) dX1_tell_80 ⟨by first | exact Nat.le_refl _ | decide, by first | exact Nat.le_refl _ | decide⟩) (fun u_ H locs hp I => ?_)
      obtain rfl := hp
      refine lv_iconst (v := nI (2)) F.x F.b dX1_tell_83 (by decide) ?_
      refine lv_iload_n F.x F.b dX1_tell_84 rfl (lv_at hl 0 rfl) ?_
      refine n_imul F dX1_tell_85 ?_
      refine lv_bipush (v := nI (100)) F.x F.b dX1_tell_86 (by decide) ?_
      refine n_iadd F dX1_tell_88 ?_
      exact g_iret (u := (va_up (va_up (va_up (va_up S.1 1 (31 * ((S.1 1)) + 3)) 1 (31 * (31 * ((S.1 1)) + 3) + 2)) 1 (31 * (31 * (31 * ((S.1 1)) + 3) + 2) + 1)) 1 (31 * (31 * (31 * (31 * ((S.1 1)) + 3) + 2) + 1) + 1), S.2)) F I (by exact ⟨by simp [aTell, *], by simp [tTell, *, va_up], by exact ⟨rfl, rfl, rfl, rfl, rfl, rfl, rfl, rfl, rfl, rfl, rfl, rfl, rfl, rfl, rfl, rfl, rfl⟩⟩) dX1_tell_89 (by first | exact Nat.le_refl _ | decide) (by first | exact Nat.le_refl _ | decide)
  · refine lv_iconst (v := (-1)) F.x F.b dX1_tell_8 (by decide) ?_
    exact g_iret (u := S) F I (by exact ⟨by simp [aTell, *], by simp [tTell, *], mKeep.rf⟩) dX1_tell_9 (by first | exact Nat.le_refl _ | decide) (by first | exact Nat.le_refl _ | decide)

theorem hd_mt_mark : yX1_mark.cls = RX1 ∧ yX1_mark.cls ≠ "java/lang/invoke/MethodHandle" ∧ yX1_mark.cls ≠ "java/lang/invoke/VarHandle" ∧ (parseMethodDescriptor yX1_mark.desc).map (fun d => d.parameters.length) = some 1 := by decide +kernel
set_option maxHeartbeats 4000000 in
theorem mt_mark (l : Launch) (G : gG) (o : Nat) (q : Nat → Nat) (S : MS) (x : Int32) (L : LD) (hL : LOk L) (hS : mLd S L 99) : gMi l yX1_mark cX1_mark 2 (some .int) ({ frames := 1, cells := 0, slots := 0, locals := 21 } : Room) G [.ref o, .int (x)] (mW G o q S) (fun S' => mW G o q S') (fun ρ S' => aMark L x = ρ ∧ S'.1 1 = tMark L x (S.1 1) ∧ mKeep (va_up S'.1 1 (S.1 1), S'.2) S) := by
  refine gMi_of (by decide) (Nat.le_of_ble_eq_true rfl) ?_
  intro p e s m below meth c ls A F I hl
  have hl : lv_has ls 2 [(0, .ref (o)), (1, .int (x))] := hl
  have hL5 := hL.1
  have hS0 := hS
  have hms : 99 < 100 := by decide
  refine lv_aload_n F.x F.b dX1_mark_0 rfl (lv_at hl 0 rfl) ?_
  refine lv_iload_n F.x F.b dX1_mark_1 rfl (lv_at hl 1 rfl) ?_
  refine g_calli I (g_runV (n := 1) (ci := 0) (q0 := 0) (As := [.int (x)]) (rest := []) F I (mt_isPassA l G o q (S) (x) L 99 (by exact hL) (by exact hS) _) q1292 q1294 qs34 q56 q1295 hd_mt_isPass ⟨Nat.le_of_ble_eq_true rfl, Nat.le_of_ble_eq_true rfl⟩ rfl rfl rfl rfl hl.1 rfl (lv_room (Nat.le_of_ble_eq_true rfl)) dX1_mark_2 ⟨by first | exact Nat.le_refl _ | decide, by first | exact Nat.le_refl _ | decide⟩) (fun r u_ H locs hp I => ?_)
  obtain ⟨rfl, rfl⟩ := hp
  refine z_ne (tgt := 10) F dX1_mark_5 (by decide) (fun c_5 => ?_) (fun c_5 => ?_)
  · obtain ⟨j, hj, rfl⟩ := pv_n hL5 c_5
    have tj : (nI j).toNatClampNeg = j := nI_clamp (by omega)
    have hj6 : j < 6 := by omega
    have hld := hS.2.2.1 j hj
    have hlo := hL.2.1 j hj
    refine lv_aload_n F.x F.b dX1_mark_10 rfl (lv_at hl 0 rfl) ?_
    refine lv_aload_n F.x F.b dX1_mark_11 rfl (lv_at hl 0 rfl) ?_
    refine m_geta F I 8 (by decide) q1163 dX1_mark_12 ?_
    refine lv_iload_n F.x F.b dX1_mark_15 rfl (lv_at hl 1 rfl) ?_
    refine m_ld (v := ((S.2 8) (j))) F I 8 (by decide) (show j < 6 by omega) rfl dX1_mark_16 ?_
    refine W.val (y := nI (L 8 j)) (by exact hld.1) ?_
    refine lv_iconst (v := nI (2)) F.x F.b dX1_mark_17 (by decide) ?_
    refine n_icmp_ne (tgt := 25) F (by omega) (by omega) dX1_mark_18 (by decide) (fun c_18 => ?_) (fun c_18 => ?_)
    · refine lv_iconst (v := nI (4)) F.x F.b dX1_mark_25 (by decide) ?_
      refine g_callv I (g_runV (n := 1) (ci := 0) (q0 := 0) (As := [.int (nI (4))]) (rest := []) F I (mt_begins l G o q (S) (4)   _) q1457 q1459 qs49 q56 q1460 hd_mt_begins ⟨Nat.le_of_ble_eq_true rfl, Nat.le_of_ble_eq_true rfl⟩ rfl rfl rfl rfl hl.1 rfl (lv_room (Nat.le_of_ble_eq_true rfl)) dX1_mark_26 ⟨by first | exact Nat.le_refl _ | decide, by first | exact Nat.le_refl _ | decide⟩) (fun u_ H locs hp I => ?_)
      obtain rfl := hp
      refine lv_aload_n F.x F.b dX1_mark_29 rfl (lv_at hl 0 rfl) ?_
      refine m_geta F I 8 (by decide) q1163 dX1_mark_30 ?_
      refine lv_iload_n F.x F.b dX1_mark_33 rfl (lv_at hl 1 rfl) ?_
      refine m_ld (v := ((S.2 8) (j))) F I 8 (by decide) (show j < 6 by omega) rfl dX1_mark_34 ?_
      refine W.val (y := nI (L 8 j)) (by exact hld.1) ?_
      refine lv_iconst (v := nI (2)) F.x F.b dX1_mark_35 (by decide) ?_
      refine n_icmp_ne (tgt := 44) F (by omega) (by omega) dX1_mark_36 (by decide) (fun c_36 => ?_) (fun c_36 => absurd c_36 (by omega))
      refine lv_iload_n F.x F.b dX1_mark_44 rfl (lv_at hl 1 rfl) ?_
      exact g_iret (u := (va_up S.1 1 (31 * ((S.1 1)) + 4), S.2)) F I (by exact ⟨by simp [aMark, *], by simp [tMark, *, va_up], by exact ⟨rfl, rfl, rfl, rfl, rfl, rfl, rfl, rfl, rfl, rfl, rfl, rfl, rfl, rfl, rfl, rfl, rfl⟩⟩) dX1_mark_45 (by first | exact Nat.le_refl _ | decide) (by first | exact Nat.le_refl _ | decide)
    · refine lv_iconst (v := nI (5)) F.x F.b dX1_mark_21 (by decide) ?_
      refine lv_goto (tgt := 26) F.x F.b dX1_mark_22 (by decide) ?_
      refine g_callv I (g_runV (n := 1) (ci := 0) (q0 := 0) (As := [.int (nI (5))]) (rest := []) F I (mt_begins l G o q (S) (5)   _) q1457 q1459 qs49 q56 q1460 hd_mt_begins ⟨Nat.le_of_ble_eq_true rfl, Nat.le_of_ble_eq_true rfl⟩ rfl rfl rfl rfl hl.1 rfl (lv_room (Nat.le_of_ble_eq_true rfl)) dX1_mark_26 ⟨by first | exact Nat.le_refl _ | decide, by first | exact Nat.le_refl _ | decide⟩) (fun u_ H locs hp I => ?_)
      obtain rfl := hp
      refine lv_aload_n F.x F.b dX1_mark_29 rfl (lv_at hl 0 rfl) ?_
      refine m_geta F I 8 (by decide) q1163 dX1_mark_30 ?_
      refine lv_iload_n F.x F.b dX1_mark_33 rfl (lv_at hl 1 rfl) ?_
      refine m_ld (v := ((S.2 8) (j))) F I 8 (by decide) (show j < 6 by omega) rfl dX1_mark_34 ?_
      refine W.val (y := nI (L 8 j)) (by exact hld.1) ?_
      refine lv_iconst (v := nI (2)) F.x F.b dX1_mark_35 (by decide) ?_
      refine n_icmp_ne (tgt := 44) F (by omega) (by omega) dX1_mark_36 (by decide) (fun c_36 => absurd c_36 (by omega)) (fun c_36 => ?_)
      refine lv_bipush (v := nI (80)) F.x F.b dX1_mark_39 (by decide) ?_
      refine lv_goto (tgt := 45) F.x F.b dX1_mark_41 (by decide) ?_
      exact g_iret (v := 80) (u := (va_up S.1 1 (31 * ((S.1 1)) + 5), S.2)) F I (by exact ⟨by simp [aMark, *], by simp [tMark, *, va_up], by exact ⟨rfl, rfl, rfl, rfl, rfl, rfl, rfl, rfl, rfl, rfl, rfl, rfl, rfl, rfl, rfl, rfl, rfl⟩⟩) dX1_mark_45 (by first | exact Nat.le_refl _ | decide) (by first | exact Nat.le_refl _ | decide)
  · refine lv_iconst (v := (-1)) F.x F.b dX1_mark_8 (by decide) ?_
    exact g_iret (u := S) F I (by exact ⟨by simp [aMark, *], by simp [tMark, *], mKeep.rf⟩) dX1_mark_9 (by first | exact Nat.le_refl _ | decide) (by first | exact Nat.le_refl _ | decide)

theorem hd_mt_as : yX1_as.cls = RX1 ∧ yX1_as.cls ≠ "java/lang/invoke/MethodHandle" ∧ yX1_as.cls ≠ "java/lang/invoke/VarHandle" ∧ (parseMethodDescriptor yX1_as.desc).map (fun d => d.parameters.length) = some 2 := by decide +kernel
set_option maxHeartbeats 4000000 in
theorem mt_as (l : Launch) (G : gG) (o : Nat) (q : Nat → Nat) (S : MS) (x : Int32) (v : Int32) (L : LD) (hL : LOk L) (hS : mLd S L 99) : gMi l yX1_as cX1_as 3 (some .int) ({ frames := 1, cells := 0, slots := 0, locals := 22 } : Room) G [.ref o, .int (x), .int (v)] (mW G o q S) (fun S' => mW G o q S') (fun ρ S' => aAs L x v = ρ ∧ S'.1 0 = fAs L x v ∧ mKeep (va_up S'.1 0 (S.1 0), S'.2) S) := by
  refine gMi_of (by decide) (Nat.le_of_ble_eq_true rfl) ?_
  intro p e s m below meth c ls A F I hl
  have hl : lv_has ls 3 [(0, .ref (o)), (1, .int (x)), (2, .int (v))] := hl
  have hL5 := hL.1
  have hS0 := hS
  have hms : 99 < 100 := by decide
  refine lv_aload_n F.x F.b dX1_as_0 rfl (lv_at hl 0 rfl) ?_
  refine lv_iconst (v := nI (0)) F.x F.b dX1_as_1 (by decide) ?_
  refine m_put F I 0 (by decide) q1155 dX1_as_2 (fun H locs (I : Iw G A s (mW G o q (va_up S.1 0 (0), S.2)) H locs) => ?_)
  refine lv_aload_n F.x F.b dX1_as_5 rfl (lv_at hl 0 rfl) ?_
  refine lv_iload_n F.x F.b dX1_as_6 rfl (lv_at hl 1 rfl) ?_
  refine g_calli I (g_runV (n := 1) (ci := 0) (q0 := 0) (As := [.int (x)]) (rest := []) F I (mt_isPassA l G o q ((va_up S.1 0 (0), S.2)) (x) L 99 (by exact hL) (by exact hS) _) q1292 q1294 qs34 q56 q1295 hd_mt_isPass ⟨Nat.le_of_ble_eq_true rfl, Nat.le_of_ble_eq_true rfl⟩ rfl rfl rfl rfl hl.1 rfl (lv_room (Nat.le_of_ble_eq_true rfl)) dX1_as_7 ⟨by first | exact Nat.le_refl _ | decide, by first | exact Nat.le_refl _ | decide⟩) (fun r u_ H locs hp I => ?_)
  obtain ⟨rfl, rfl⟩ := hp
  refine z_ne (tgt := 15) F dX1_as_10 (by decide) (fun c_10 => ?_) (fun c_10 => ?_)
  · obtain ⟨j, hj, rfl⟩ := pv_n hL5 c_10
    have tj : (nI j).toNatClampNeg = j := nI_clamp (by omega)
    have hj6 : j < 6 := by omega
    have hld := hS.2.2.1 j hj
    have hlo := hL.2.1 j hj
    refine lv_iload_n F.x F.b dX1_as_15 rfl (lv_at hl 2 rfl) ?_
    refine lv_iconst (v := nI (0)) F.x F.b dX1_as_16 (by decide) ?_
    refine lv_iconst (v := nI (2)) F.x F.b dX1_as_17 (by decide) ?_
    refine g_calli I (g_runS (n := 3) (As := [.int (v), .int (nI (0)), .int (nI (2))]) (rest := []) F I (mt_within l G _ (v) (0) (2)   _) q1250 q1251 q56 q1252 hd_mt_within.2 ⟨Nat.le_of_ble_eq_true rfl, Nat.le_of_ble_eq_true rfl⟩ rfl rfl hl.1 rfl (lv_room (Nat.le_of_ble_eq_true rfl)) dX1_as_18 ⟨by first | exact Nat.le_refl _ | decide, by first | exact Nat.le_refl _ | decide⟩) (fun r u_ H locs hp I => ?_)
    obtain rfl := hp
    refine z_ne (tgt := 27) F dX1_as_21 (by decide) (fun c_21 => ?_) (fun c_21 => ?_)
    · obtain ⟨i, hi, rfl⟩ := wi_n (m := 2) (by decide) c_21
      have ti : (nI i).toNatClampNeg = i := nI_clamp (by omega)
      refine lv_aload_n F.x F.b dX1_as_27 rfl (lv_at hl 0 rfl) ?_
      refine m_geta F I 8 (by decide) q1163 dX1_as_28 ?_
      refine lv_iload_n F.x F.b dX1_as_31 rfl (lv_at hl 1 rfl) ?_
      refine m_ld (v := ((S.2 8) (j))) F I 8 (by decide) (show j < 6 by omega) rfl dX1_as_32 ?_
      refine W.val (y := nI (L 8 j)) (by exact hld.1) ?_
      refine lv_iload_n F.x F.b dX1_as_33 rfl (lv_at hl 2 rfl) ?_
      refine n_icmp_lt (tgt := 41) F (by omega) (by omega) dX1_as_34 (by decide) (fun c_34 => ?_) (fun c_34 => ?_)
      · refine lv_aload_n F.x F.b dX1_as_41 rfl (lv_at hl 0 rfl) ?_
        refine lv_iconst (v := nI (2)) F.x F.b dX1_as_42 (by decide) ?_
        refine g_calli I (g_runV (n := 1) (ci := 0) (q0 := 0) (As := [.int (nI (2))]) (rest := []) F I (mt_fails l G o q ((va_up S.1 0 (0), S.2)) (2)   _) q1260 q1262 qs27 q56 q1263 hd_mt_fails ⟨Nat.le_of_ble_eq_true rfl, Nat.le_of_ble_eq_true rfl⟩ rfl rfl rfl rfl hl.1 rfl (lv_room (Nat.le_of_ble_eq_true rfl)) dX1_as_43 ⟨by first | exact Nat.le_refl _ | decide, by first | exact Nat.le_refl _ | decide⟩) (fun r u_ H locs hp I => ?_)
        obtain ⟨rfl, rfl⟩ := hp
        exact g_iret (u := (va_up (va_up S.1 0 (0)) 0 (2), S.2)) F I (by exact ⟨by simp [aAs, Nat.not_lt.mpr, *], by simp [fAs, *, va_up, Nat.not_lt.mpr], by exact ⟨rfl, rfl, rfl, rfl, rfl, rfl, rfl, rfl, rfl, rfl, rfl, rfl, rfl, rfl, rfl, rfl, rfl⟩⟩) dX1_as_46 (by first | exact Nat.le_refl _ | decide) (by first | exact Nat.le_refl _ | decide)
      · refine lv_iconst (v := nI (1)) F.x F.b dX1_as_37 (by decide) ?_
        refine lv_goto (tgt := 46) F.x F.b dX1_as_38 (by decide) ?_
        exact g_iret (v := 1) (u := (va_up S.1 0 (0), S.2)) F I (by exact ⟨by simp [aAs, Nat.not_lt.mpr, *], by simp [fAs, *, va_up, Nat.not_lt.mpr], by exact ⟨rfl, rfl, rfl, rfl, rfl, rfl, rfl, rfl, rfl, rfl, rfl, rfl, rfl, rfl, rfl, rfl, rfl⟩⟩) dX1_as_46 (by first | exact Nat.le_refl _ | decide) (by first | exact Nat.le_refl _ | decide)
    · refine lv_bipush (v := (-2)) F.x F.b dX1_as_24 (by decide) ?_
      exact g_iret (u := (va_up S.1 0 (0), S.2)) F I (by exact ⟨by simp [aAs, Nat.not_lt.mpr, *], by simp [fAs, *, va_up, Nat.not_lt.mpr], by exact ⟨rfl, rfl, rfl, rfl, rfl, rfl, rfl, rfl, rfl, rfl, rfl, rfl, rfl, rfl, rfl, rfl, rfl⟩⟩) dX1_as_26 (by first | exact Nat.le_refl _ | decide) (by first | exact Nat.le_refl _ | decide)
  · refine lv_iconst (v := (-1)) F.x F.b dX1_as_13 (by decide) ?_
    exact g_iret (u := (va_up S.1 0 (0), S.2)) F I (by exact ⟨by simp [aAs, Nat.not_lt.mpr, *], by simp [fAs, *, va_up, Nat.not_lt.mpr], by exact ⟨rfl, rfl, rfl, rfl, rfl, rfl, rfl, rfl, rfl, rfl, rfl, rfl, rfl, rfl, rfl, rfl, rfl⟩⟩) dX1_as_14 (by first | exact Nat.le_refl _ | decide) (by first | exact Nat.le_refl _ | decide)
