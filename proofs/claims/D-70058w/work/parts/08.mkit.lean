/-! OWN KIT: the reference's world: one object, sixteen int arrays -/
set_option maxRecDepth 100000
abbrev MS : Type := (Nat → Int32) × (Nat → Nat → Int32)
def mF (q : Nat → Nat) (S : MS) : List Value := [.int (S.1 0), .int (S.1 1), .ref (q 2), .ref (q 3), .ref (q 4), .int (S.1 5), .ref (q 6), .ref (q 7), .ref (q 8), .ref (q 9), .ref (q 10), .ref (q 11), .ref (q 12), .int (S.1 13), .int (S.1 14), .int (S.1 15), .ref (q 16), .ref (q 17), .ref (q 18), .ref (q 19), .int (S.1 20), .int (S.1 21), .int (S.1 22), .int (S.1 23), .int (S.1 24), .int (S.1 25), .int (S.1 26), .ref (q 27), .ref (q 28)]
def mW (G : gG) (o : Nat) (q : Nat → Nat) (S : MS) : va_W := [(o, .inr (0, mF q S)), (q 2, .inl (G.2.1 0, 4, .inl (S.2 2))), (q 3, .inl (G.2.1 0, 4, .inl (S.2 3))), (q 4, .inl (G.2.1 0, 240, .inl (S.2 4))), (q 6, .inl (G.2.1 0, 8, .inl (S.2 6))), (q 7, .inl (G.2.1 0, 3, .inl (S.2 7))), (q 8, .inl (G.2.1 0, 6, .inl (S.2 8))), (q 9, .inl (G.2.1 0, 6, .inl (S.2 9))), (q 10, .inl (G.2.1 0, 6, .inl (S.2 10))), (q 11, .inl (G.2.1 0, 6, .inl (S.2 11))), (q 12, .inl (G.2.1 0, 6, .inl (S.2 12))), (q 16, .inl (G.2.1 0, 8, .inl (S.2 16))), (q 17, .inl (G.2.1 0, 3, .inl (S.2 17))), (q 18, .inl (G.2.1 0, 30, .inl (S.2 18))), (q 19, .inl (G.2.1 0, 48, .inl (S.2 19))), (q 27, .inl (G.2.1 0, 8, .inl (S.2 27))), (q 28, .inl (G.2.1 0, 8, .inl (S.2 28)))]
abbrev mIsS (k : Nat) : Prop := k = 0 ∨ k = 1 ∨ k = 5 ∨ k = 13 ∨ k = 14 ∨ k = 15 ∨ k = 20 ∨ k = 21 ∨ k = 22 ∨ k = 23 ∨ k = 24 ∨ k = 25 ∨ k = 26
abbrev mIsA (k : Nat) : Prop := k = 2 ∨ k = 3 ∨ k = 4 ∨ k = 6 ∨ k = 7 ∨ k = 8 ∨ k = 9 ∨ k = 10 ∨ k = 11 ∨ k = 12 ∨ k = 16 ∨ k = 17 ∨ k = 18 ∨ k = 19 ∨ k = 27 ∨ k = 28
def mLen (k : Nat) : Nat := match k with
  | 2 => 4 | 3 => 4 | 4 => 240 | 6 => 8 | 7 => 3 | 8 => 6 | 9 => 6 | 10 => 6 | 11 => 6 | 12 => 6 | 16 => 8 | 17 => 3 | 18 => 30 | 19 => 48 | 27 => 8 | 28 => 8 | _ => 0
def mPos (k : Nat) : Nat := match k with
  | 2 => 1 | 3 => 2 | 4 => 3 | 6 => 4 | 7 => 5 | 8 => 6 | 9 => 7 | 10 => 8 | 11 => 9 | 12 => 10 | 16 => 11 | 17 => 12 | 18 => 13 | 19 => 14 | 27 => 15 | 28 => 16 | _ => 99
theorem mLen_lt {k : Nat} (h : mIsA k) : mLen k < 2 ^ 31 := by
  rcases h with rfl | rfl | rfl | rfl | rfl | rfl | rfl | rfl | rfl | rfl | rfl | rfl | rfl | rfl | rfl | rfl <;> decide
theorem m_lt {k : Nat} (h : mIsS k) : k < 29 := by
  rcases h with rfl | rfl | rfl | rfl | rfl | rfl | rfl | rfl | rfl | rfl | rfl | rfl | rfl <;> decide
theorem m_ltA {k : Nat} (h : mIsA k) : k < 29 := by
  rcases h with rfl | rfl | rfl | rfl | rfl | rfl | rfl | rfl | rfl | rfl | rfl | rfl | rfl | rfl | rfl | rfl <;> decide
theorem m_sv {q : Nat → Nat} {S : MS} {k : Nat} (h : mIsS k) : (mF q S)[k]? = some (.int (S.1 k)) := by
  rcases h with rfl | rfl | rfl | rfl | rfl | rfl | rfl | rfl | rfl | rfl | rfl | rfl | rfl <;> rfl
theorem m_av {q : Nat → Nat} {S : MS} {k : Nat} (h : mIsA k) : (mF q S)[k]? = some (.ref (q k)) := by
  rcases h with rfl | rfl | rfl | rfl | rfl | rfl | rfl | rfl | rfl | rfl | rfl | rfl | rfl | rfl | rfl | rfl <;> rfl
theorem m_at {G : gG} {o : Nat} {q : Nat → Nat} {S : MS} {k : Nat} (h : mIsA k) : (mW G o q S)[mPos k]? = some (q k, .inl (G.2.1 0, mLen k, .inl (S.2 k))) := by
  rcases h with rfl | rfl | rfl | rfl | rfl | rfl | rfl | rfl | rfl | rfl | rfl | rfl | rfl | rfl | rfl | rfl <;> rfl
theorem m_sS {G : gG} {o : Nat} {q : Nat → Nat} {S : MS} {k : Nat} (h : mIsS k) (v : Int32) : (mW G o q S).set 0 (o, .inr (0, (mF q S).set k (.int v))) = mW G o q (va_up S.1 k v, S.2) := by
  rcases h with rfl | rfl | rfl | rfl | rfl | rfl | rfl | rfl | rfl | rfl | rfl | rfl | rfl <;> rfl
theorem m_sA {G : gG} {o : Nat} {q : Nat → Nat} {S : MS} {k : Nat} (h : mIsA k) (f : Nat → Int32) : (mW G o q S).set (mPos k) (q k, .inl (G.2.1 0, mLen k, .inl f)) = mW G o q (S.1, va_up S.2 k f) := by
  rcases h with rfl | rfl | rfl | rfl | rfl | rfl | rfl | rfl | rfl | rfl | rfl | rfl | rfl | rfl | rfl | rfl <;> rfl
theorem m_ty {k : Nat} (h : mIsS k) : (TX1 k).2.2.2 = false ∧ parseFieldDescriptor (TX1 k).2.2.1 = some .int := by
  rcases h with rfl | rfl | rfl | rfl | rfl | rfl | rfl | rfl | rfl | rfl | rfl | rfl | rfl <;> exact ⟨rfl, by decide +kernel⟩
section MK
variable {p : Program} {l : Launch} {e : Env} {R : Room} {s : State} {m : MethodId} {args : Array Value} {below : List Frame} {meth : Method} {c : Code} {H : Heap} {locs : List Loc} {cells slots : Nat} {Q : State → Prop}
variable {cc : ByteArray} {nL : Nat} {ret : Option FieldType} {name : String} {G : gG} {A : Nat → Prop} {pc : Nat} {ls : Array Slot} {rest : List Value} {o : Nat} {q : Nat → Nat} {S : MS}
theorem m_get (F : gF p m meth c cc nL ret s args RX1 name) (I : Iw G A s (mW G o q S) H locs) (k : Nat) (hk : mIsS k) {idx : Nat} {v : Int32} (hv : S.1 k = v) (hl : Cond.fieldLink RX1 idx RX1 (TX1 k).2.1 (TX1 k).2.2.1 ∈ lw_all) (hdg : decode cc pc = .ok (.getfield idx, 3))
    (kk : W p l e R s m args below meth c H locs cells slots Q (F0 m (pc + 3) ls (.int v :: rest))) : W p l e R s m args below meth c H locs cells slots Q (F0 m pc ls (.ref o :: rest)) :=
  va_get (D := G.1) (ci := 0) (C := RX1) (T := TX1) (N := 29) F.x F.b F.t in_X1 F.o I.K I.P 0 rfl rfl k (m_lt hk) (F.t _ hl) (fun _ h9 => by rcases hk with rfl | rfl | rfl | rfl | rfl | rfl | rfl | rfl | rfl | rfl | rfl | rfl | rfl <;> exact h9) (m_sv hk) hdg (by rw [hv]; exact kk)
theorem m_geta (F : gF p m meth c cc nL ret s args RX1 name) (I : Iw G A s (mW G o q S) H locs) (k : Nat) (hk : mIsA k) {idx : Nat} (hl : Cond.fieldLink RX1 idx RX1 (TX1 k).2.1 (TX1 k).2.2.1 ∈ lw_all) (hdg : decode cc pc = .ok (.getfield idx, 3))
    (kk : W p l e R s m args below meth c H locs cells slots Q (F0 m (pc + 3) ls (.ref (q k) :: rest))) : W p l e R s m args below meth c H locs cells slots Q (F0 m pc ls (.ref o :: rest)) :=
  va_get (D := G.1) (ci := 0) (C := RX1) (T := TX1) (N := 29) F.x F.b F.t in_X1 F.o I.K I.P 0 rfl rfl k (m_ltA hk) (F.t _ hl) (fun _ h9 => by rcases hk with rfl | rfl | rfl | rfl | rfl | rfl | rfl | rfl | rfl | rfl | rfl | rfl | rfl | rfl | rfl | rfl <;> exact h9) (m_av hk) hdg kk
theorem m_put (F : gF p m meth c cc nL ret s args RX1 name) (I : Iw G A s (mW G o q S) H locs) (k : Nat) (hk : mIsS k) {idx : Nat} {v : Int32} (hl : Cond.fieldLink RX1 idx RX1 (TX1 k).2.1 (TX1 k).2.2.1 ∈ lw_all) (hdg : decode cc pc = .ok (.putfield idx, 3))
    (kk : ∀ (H1 : Heap) (locs1 : List Loc), Iw G A s (mW G o q (va_up S.1 k v, S.2)) H1 locs1 → W p l e R s m args below meth c H1 locs1 cells slots Q (F0 m (pc + 3) ls rest)) : W p l e R s m args below meth c H locs cells slots Q (F0 m pc ls (.int v :: .ref o :: rest)) :=
  va_put (D := G.1) (ci := 0) (C := RX1) (T := TX1) (N := 29) F.x F.b F.t in_X1 tyX1 tyX1_ok nmX1 F.o I.K I.P I.D I.S 0 rfl rfl k (m_lt hk) (F.t _ hl) (fun _ h9 => by rcases hk with rfl | rfl | rfl | rfl | rfl | rfl | rfl | rfl | rfl | rfl | rfl | rfl | rfl <;> exact h9) (m_ty hk).1 (m_ty hk).2 rfl rfl (show k < 29 from m_lt hk) hdg
    (fun H1 locs1 hP hD hS => kk H1 locs1 ⟨I.KE, by rw [← m_sS hk]; exact hP, by rw [← m_sS hk]; exact hD, hS, I.A⟩)
theorem m_ld (F : gF p m meth c cc nL ret s args RX1 name) (I : Iw G A s (mW G o q S) H locs) (k : Nat) (hk : mIsA k) {j : Nat} {v : Int32} (hj : j < mLen k) (hv : S.2 k j = v) (hdg : decode cc pc = .ok (.iaload, 1))
    (kk : W p l e R s m args below meth c H locs cells slots Q (F0 m (pc + 1) ls (.int v :: rest))) : W p l e R s m args below meth c H locs cells slots Q (F0 m pc ls (.int (nI j) :: .ref (q k) :: rest)) :=
  va_iald F.x F.b I.K I.P (mPos k) 0 (m_at hk) rfl (vp_in_nI hj (mLen_lt hk)) hdg (by rw [nI_clamp (Nat.lt_trans hj (mLen_lt hk)), hv]; exact kk)
theorem m_st (F : gF p m meth c cc nL ret s args RX1 name) (I : Iw G A s (mW G o q S) H locs) (k : Nat) (hk : mIsA k) {j : Nat} {x : Int32} (hj : j < mLen k) (hdg : decode cc pc = .ok (.iastore, 1))
    (kk : ∀ (H1 : Heap) (locs1 : List Loc), Iw G A s (mW G o q (S.1, va_up S.2 k (upd (S.2 k) j x))) H1 locs1 → W p l e R s m args below meth c H1 locs1 cells slots Q (F0 m (pc + 1) ls rest)) : W p l e R s m args below meth c H locs cells slots Q (F0 m pc ls (.int x :: .int (nI j) :: .ref (q k) :: rest)) :=
  va_iast F.x F.b I.K I.P I.D I.S (mPos k) 0 (m_at hk) rfl (vp_in_nI hj (mLen_lt hk)) hdg
    (fun H1 locs1 hP hD hS => by
      rw [nI_clamp (Nat.lt_trans hj (mLen_lt hk)), m_sA hk] at hP hD
      exact kk H1 locs1 ⟨I.KE, hP, hD, hS, I.A⟩)
end MK
