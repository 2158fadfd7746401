/-! OWN KIT: the component's world: the object, its three int arrays, and any rest Y -/
set_option maxRecDepth 100000
def cF (q : Nat → Nat) (S : MS) : List Value := [.int (S.1 0), .ref (q 1), .ref (q 2), .ref (q 3), .ref (q 4), .int (S.1 5), .int (S.1 6), .int (S.1 7), .int (S.1 8), .int (S.1 9), .int (S.1 10), .ref (q 11), .int (S.1 12), .ref (q 13)]
def cW (G : gG) (o : Nat) (q : Nat → Nat) (S : MS) (Y : va_W) : va_W := (o, .inr (1, cF q S)) :: (q 1, .inl (G.2.1 0, 8, .inl (S.2 1))) :: (q 2, .inl (G.2.1 0, 3, .inl (S.2 2))) :: (q 4, .inl (G.2.1 0, 48, .inl (S.2 4))) :: Y
abbrev cIsS (k : Nat) : Prop := k = 0 ∨ k = 5 ∨ k = 6 ∨ k = 7 ∨ k = 8 ∨ k = 9 ∨ k = 10 ∨ k = 12
abbrev cIsR (k : Nat) : Prop := k = 1 ∨ k = 2 ∨ k = 3 ∨ k = 4 ∨ k = 11 ∨ k = 13
abbrev cIsA (k : Nat) : Prop := k = 1 ∨ k = 2 ∨ k = 4
def cLen (k : Nat) : Nat := match k with
  | 1 => 8 | 2 => 3 | 4 => 48 | _ => 0
def cPos (k : Nat) : Nat := match k with
  | 1 => 1 | 2 => 2 | 4 => 3 | _ => 99
theorem cLen_lt {k : Nat} (h : cIsA k) : cLen k < 2 ^ 31 := by rcases h with rfl | rfl | rfl <;> decide
theorem c_lt {k : Nat} (h : cIsS k) : k < 14 := by rcases h with rfl | rfl | rfl | rfl | rfl | rfl | rfl | rfl <;> decide
theorem c_ltR {k : Nat} (h : cIsR k) : k < 14 := by rcases h with rfl | rfl | rfl | rfl | rfl | rfl <;> decide
theorem c_sv {q : Nat → Nat} {S : MS} {k : Nat} (h : cIsS k) : (cF q S)[k]? = some (.int (S.1 k)) := by rcases h with rfl | rfl | rfl | rfl | rfl | rfl | rfl | rfl <;> rfl
theorem c_rv {q : Nat → Nat} {S : MS} {k : Nat} (h : cIsR k) : (cF q S)[k]? = some (.ref (q k)) := by rcases h with rfl | rfl | rfl | rfl | rfl | rfl <;> rfl
theorem c_at {G : gG} {o : Nat} {q : Nat → Nat} {S : MS} {Y : va_W} {k : Nat} (h : cIsA k) : (cW G o q S Y)[cPos k]? = some (q k, .inl (G.2.1 0, cLen k, .inl (S.2 k))) := by rcases h with rfl | rfl | rfl <;> rfl
theorem c_Y {G : gG} {o : Nat} {q : Nat → Nat} {S : MS} {Y : va_W} {k : Nat} {x : Nat × va_E} (h : Y[k]? = some x) : (cW G o q S Y)[k + 4]? = some x := h
theorem c_sS {G : gG} {o : Nat} {q : Nat → Nat} {S : MS} {Y : va_W} {k : Nat} (h : cIsS k) (v : Int32) : (cW G o q S Y).set 0 (o, .inr (1, (cF q S).set k (.int v))) = cW G o q (va_up S.1 k v, S.2) Y := by
  rcases h with rfl | rfl | rfl | rfl | rfl | rfl | rfl | rfl <;> rfl
theorem c_sA {G : gG} {o : Nat} {q : Nat → Nat} {S : MS} {Y : va_W} {k : Nat} (h : cIsA k) (f : Nat → Int32) : (cW G o q S Y).set (cPos k) (q k, .inl (G.2.1 0, cLen k, .inl f)) = cW G o q (S.1, va_up S.2 k f) Y := by
  rcases h with rfl | rfl | rfl <;> rfl
theorem c_ty {k : Nat} (h : cIsS k) : (TX0 k).2.2.2 = false ∧ tyX0 k = .int ∧ (TX0 k).1 = RX0 := by
  rcases h with rfl | rfl | rfl | rfl | rfl | rfl | rfl | rfl <;> exact ⟨rfl, rfl, rfl⟩
theorem c_tyR {k : Nat} (h : cIsR k) : (TX0 k).1 = RX0 := by rcases h with rfl | rfl | rfl | rfl | rfl | rfl <;> rfl
/-- a pass's fields; kd 0, 1, 2: Pass, Steep, Tunnel -/
def pF (kd x j f t n h : Nat) (b : Bool) : List Value := [.int (nI j), .int (nI f), .int (nI t), .int (nI n), .int (nI h), .int (bI b), .ref x] ++ List.replicate kd (.ref x)
section CK
variable {p : Program} {l : Launch} {e : Env} {R : Room} {s : State} {m : MethodId} {args : Array Value} {below : List Frame} {meth : Method} {c : Code} {H : Heap} {locs : List Loc} {cells slots : Nat} {Q : State → Prop}
variable {cc : ByteArray} {nL : Nat} {ret : Option FieldType} {own name : String} {G : gG} {A : Nat → Prop} {pc : Nat} {ls : Array Slot} {rest : List Value} {o : Nat} {q : Nat → Nat} {S : MS} {Y : va_W}
theorem c_get (F : gF p m meth c cc nL ret s args RX0 name) (I : Iw G A s (cW G o q S Y) H locs) (k : Nat) (hk : cIsS k) {idx : Nat} {v : Int32} (hv : S.1 k = v) (hl : Cond.fieldLink RX0 idx RX0 (TX0 k).2.1 (TX0 k).2.2.1 ∈ lw_all) (hdg : decode cc pc = .ok (.getfield idx, 3))
    (kk : W p l e R s m args below meth c H locs cells slots Q (F0 m (pc + 3) ls (.int v :: rest))) : W p l e R s m args below meth c H locs cells slots Q (F0 m pc ls (.ref o :: rest)) :=
  g_get (C := RX0) (T := TX0) (N := 14) (ci := 1) F I in_X0 rfl 0 rfl k (c_lt hk) hl (fun _ h9 => by rw [(c_ty hk).2.2] at h9; exact h9) (c_sv hk) hdg (by rw [hv]; exact kk)
theorem c_getr (F : gF p m meth c cc nL ret s args RX0 name) (I : Iw G A s (cW G o q S Y) H locs) (k : Nat) (hk : cIsR k) {idx : Nat} (hl : Cond.fieldLink RX0 idx RX0 (TX0 k).2.1 (TX0 k).2.2.1 ∈ lw_all) (hdg : decode cc pc = .ok (.getfield idx, 3))
    (kk : W p l e R s m args below meth c H locs cells slots Q (F0 m (pc + 3) ls (.ref (q k) :: rest))) : W p l e R s m args below meth c H locs cells slots Q (F0 m pc ls (.ref o :: rest)) :=
  g_get (C := RX0) (T := TX0) (N := 14) (ci := 1) F I in_X0 rfl 0 rfl k (c_ltR hk) hl (fun _ h9 => by rw [c_tyR hk] at h9; exact h9) (c_rv hk) hdg kk
theorem c_put (F : gF p m meth c cc nL ret s args RX0 name) (I : Iw G A s (cW G o q S Y) H locs) (k : Nat) (hk : cIsS k) {idx : Nat} {v : Int32} (hl : Cond.fieldLink RX0 idx RX0 (TX0 k).2.1 (TX0 k).2.2.1 ∈ lw_all) (hdg : decode cc pc = .ok (.putfield idx, 3))
    (kk : ∀ (H1 : Heap) (locs1 : List Loc), Iw G A s (cW G o q (va_up S.1 k v, S.2) Y) H1 locs1 → W p l e R s m args below meth c H1 locs1 cells slots Q (F0 m (pc + 3) ls rest)) : W p l e R s m args below meth c H locs cells slots Q (F0 m pc ls (.int v :: .ref o :: rest)) :=
  g_put (C := RX0) (T := TX0) (N := 14) (ci := 1) F I in_X0 tyX0 tyX0_ok nmX0 rfl 0 rfl k (c_lt hk) hl (fun _ h9 => by rw [(c_ty hk).2.2] at h9; exact h9) (c_ty hk).1 (by rw [(c_ty hk).2.1]; rfl) (by rw [(c_ty hk).2.1]; rfl) (show k < 14 from c_lt hk) hdg (c_sS hk v) kk
/-- out of a nest mate -/
theorem c_getN {own : String} (F : gF p m meth c cc nL ret s args own name) (I : Iw G A s (cW G o q S Y) H locs) (k : Nat) (hk : cIsS k) {idx : Nat} {v : Int32} (hv : S.1 k = v) (hl : Cond.fieldLinkNest own idx RX0 (TX0 k).2.1 (TX0 k).2.2.1 RX0 ∈ lw_tbl) (hdg : decode cc pc = .ok (.getfield idx, 3))
    (kk : W p l e R s m args below meth c H locs cells slots Q (F0 m (pc + 3) ls (.int v :: rest))) : W p l e R s m args below meth c H locs cells slots Q (F0 m pc ls (.ref o :: rest)) :=
  g_getN (C := RX0) (T := TX0) (N := 14) (ci := 1) F I in_X0 rfl 0 rfl k (c_lt hk) hl (fun _ h9 => by rw [(c_ty hk).2.2] at h9; exact h9) (c_sv hk) hdg (by rw [hv]; exact kk)
theorem c_getrN {own : String} (F : gF p m meth c cc nL ret s args own name) (I : Iw G A s (cW G o q S Y) H locs) (k : Nat) (hk : cIsR k) {idx : Nat} (hl : Cond.fieldLinkNest own idx RX0 (TX0 k).2.1 (TX0 k).2.2.1 RX0 ∈ lw_tbl) (hdg : decode cc pc = .ok (.getfield idx, 3))
    (kk : W p l e R s m args below meth c H locs cells slots Q (F0 m (pc + 3) ls (.ref (q k) :: rest))) : W p l e R s m args below meth c H locs cells slots Q (F0 m pc ls (.ref o :: rest)) :=
  g_getN (C := RX0) (T := TX0) (N := 14) (ci := 1) F I in_X0 rfl 0 rfl k (c_ltR hk) hl (fun _ h9 => by rw [c_tyR hk] at h9; exact h9) (c_rv hk) hdg kk
theorem c_putN {own : String} (F : gF p m meth c cc nL ret s args own name) (I : Iw G A s (cW G o q S Y) H locs) (k : Nat) (hk : cIsS k) {idx : Nat} {v : Int32} (hl : Cond.fieldLinkNest own idx RX0 (TX0 k).2.1 (TX0 k).2.2.1 RX0 ∈ lw_tbl) (hdg : decode cc pc = .ok (.putfield idx, 3))
    (kk : ∀ (H1 : Heap) (locs1 : List Loc), Iw G A s (cW G o q (va_up S.1 k v, S.2) Y) H1 locs1 → W p l e R s m args below meth c H1 locs1 cells slots Q (F0 m (pc + 3) ls rest)) : W p l e R s m args below meth c H locs cells slots Q (F0 m pc ls (.int v :: .ref o :: rest)) :=
  g_putN (C := RX0) (T := TX0) (N := 14) (ci := 1) F I in_X0 tyX0 tyX0_ok nmX0 rfl 0 rfl k (c_lt hk) hl (fun _ h9 => by rw [(c_ty hk).2.2] at h9; exact h9) (c_ty hk).1 (by rw [(c_ty hk).2.1]; rfl) (by rw [(c_ty hk).2.1]; rfl) (show k < 14 from c_lt hk) hdg (c_sS hk v) kk
theorem c_ld {own : String} (F : gF p m meth c cc nL ret s args own name) (I : Iw G A s (cW G o q S Y) H locs) (k : Nat) (hk : cIsA k) {j : Nat} {v : Int32} (hj : j < cLen k) (hv : S.2 k j = v) (hdg : decode cc pc = .ok (.iaload, 1))
    (kk : W p l e R s m args below meth c H locs cells slots Q (F0 m (pc + 1) ls (.int v :: rest))) : W p l e R s m args below meth c H locs cells slots Q (F0 m pc ls (.int (nI j) :: .ref (q k) :: rest)) :=
  g_ild F I (cPos k) (c_at hk) hj (cLen_lt hk) hv hdg kk
theorem c_st {own : String} (F : gF p m meth c cc nL ret s args own name) (I : Iw G A s (cW G o q S Y) H locs) (k : Nat) (hk : cIsA k) {j : Nat} {x : Int32} (hj : j < cLen k) (hdg : decode cc pc = .ok (.iastore, 1))
    (kk : ∀ (H1 : Heap) (locs1 : List Loc), Iw G A s (cW G o q (S.1, va_up S.2 k (upd (S.2 k) j x)) Y) H1 locs1 → W p l e R s m args below meth c H1 locs1 cells slots Q (F0 m (pc + 1) ls rest)) : W p l e R s m args below meth c H locs cells slots Q (F0 m pc ls (.int x :: .int (nI j) :: .ref (q k) :: rest)) :=
  g_ist F I (cPos k) (c_at hk) hj (cLen_lt hk) hdg (c_sA hk _) kk
end CK
