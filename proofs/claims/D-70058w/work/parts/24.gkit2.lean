/-! OWN KIT, 2: rows for objects of any class of gC, new arrays, constructors; updates of a world by address -/
set_option maxRecDepth 100000
section GK2
variable {p : Program} {l : Launch} {e : Env} {R : Room} {s : State} {m : MethodId} {args : Array Value} {below : List Frame} {meth : Method} {c : Code} {H : Heap} {locs : List Loc} {cells slots : Nat} {Q : State → Prop}
variable {cc : ByteArray} {nL : Nat} {ret : Option FieldType} {own name : String} {G : gG} {A : Nat → Prop} {ws : va_W} {pc : Nat} {ls : Array Slot} {rest : List Value} {a : Nat}
theorem g_get {ref C : String} {T : u_T} {N ci index : Nat} {fs : List Value} {v : Value} (F : gF p m meth c cc nL ret s args own name) (I : Iw G A s ws H locs) (hin : ∀ w ∈ u_ws C T N, w ∈ lw_all) (hc : gC[ci]? = some (C, T, N)) (q0 : Nat) (he : ws[q0]? = some (a, .inr (ci, fs))) (k : Nat) (hk : k < N) (hl : Cond.fieldLink own index ref (T k).2.1 (T k).2.2.1 ∈ lw_all) (hsame : ∀ x, s.fieldFound? (T k).1 (T k).2.1 (T k).2.2.1 = some x → s.fieldFound? ref (T k).2.1 (T k).2.2.1 = some x) (hv : fs[k]? = some v) (hdg : decode cc pc = .ok (.getfield index, 3))
    (kk : W p l e R s m args below meth c H locs cells slots Q (F0 m (pc + 3) ls (v :: rest))) : W p l e R s m args below meth c H locs cells slots Q (F0 m pc ls (.ref a :: rest)) :=
  va_get (D := G.1) F.x F.b F.t hin F.o I.K I.P q0 he hc k hk (F.t _ hl) hsame hv hdg kk
theorem g_put {ref C : String} {T : u_T} {N ci index : Nat} {fs : List Value} {v : Value} {ws' : va_W} (F : gF p m meth c cc nL ret s args own name) (I : Iw G A s ws H locs) (hin : ∀ w ∈ u_ws C T N, w ∈ lw_all) (ty0 : Nat → FieldType) (hty : ∀ k, k < N → parseFieldDescriptor (T k).2.2.1 = some (ty0 k)) (hnm : ∀ a, a < N → ∀ b, b < N → a ≠ b → (T a).2.1 ≠ (T b).2.1) (hc : gC[ci]? = some (C, T, N)) (q0 : Nat) (he : ws[q0]? = some (a, .inr (ci, fs))) (k : Nat) (hk : k < N) (hl : Cond.fieldLink own index ref (T k).2.1 (T k).2.2.1 ∈ lw_all) (hsame : ∀ x, s.fieldFound? (T k).1 (T k).2.1 (T k).2.2.1 = some x → s.fieldFound? ref (T k).2.1 (T k).2.2.1 = some x) (hfin : (T k).2.2.2 = false) (hn : narrow (ty0 k) v = v) (hfit : fits (ty0 k) v = true) (hlen : k < fs.length) (hdg : decode cc pc = .ok (.putfield index, 3)) (hw : ws.set q0 (a, .inr (ci, fs.set k v)) = ws')
    (kk : ∀ (H1 : Heap) (locs1 : List Loc), Iw G A s ws' H1 locs1 → W p l e R s m args below meth c H1 locs1 cells slots Q (F0 m (pc + 3) ls rest)) : W p l e R s m args below meth c H locs cells slots Q (F0 m pc ls (v :: .ref a :: rest)) := by
  subst hw
  exact va_put (D := G.1) F.x F.b F.t hin ty0 hty hnm F.o I.K I.P I.D I.S q0 he hc k hk (F.t _ hl) hsame hfin (hty k hk) hn hfit hlen hdg (fun H1 locs1 hP hD hS => kk H1 locs1 ⟨I.KE, hP, hD, hS, I.A⟩)
theorem g_putF {ref C : String} {T : u_T} {N ci index : Nat} {fs : List Value} {v : Value} {ws' : va_W} (F : gF p m meth c cc nL ret s args own "<init>") (I : Iw G A s ws H locs) (hin : ∀ w ∈ u_ws C T N, w ∈ lw_all) (ty0 : Nat → FieldType) (hty : ∀ k, k < N → parseFieldDescriptor (T k).2.2.1 = some (ty0 k)) (hnm : ∀ a, a < N → ∀ b, b < N → a ≠ b → (T a).2.1 ≠ (T b).2.1) (hc : gC[ci]? = some (C, T, N)) (q0 : Nat) (he : ws[q0]? = some (a, .inr (ci, fs))) (k : Nat) (hk : k < N) (hl : Cond.fieldLink own index ref (T k).2.1 (T k).2.2.1 ∈ lw_all) (hsame : ∀ x, s.fieldFound? (T k).1 (T k).2.1 (T k).2.2.1 = some x → s.fieldFound? ref (T k).2.1 (T k).2.2.1 = some x) (hfin : (T k).2.2.2 = true) (hdecl : (T k).1 = own) (hn : narrow (ty0 k) v = v) (hfit : fits (ty0 k) v = true) (hlen : k < fs.length) (hdg : decode cc pc = .ok (.putfield index, 3)) (hw : ws.set q0 (a, .inr (ci, fs.set k v)) = ws')
    (kk : ∀ (H1 : Heap) (locs1 : List Loc), Iw G A s ws' H1 locs1 → W p l e R s m args below meth c H1 locs1 cells slots Q (F0 m (pc + 3) ls rest)) : W p l e R s m args below meth c H locs cells slots Q (F0 m pc ls (v :: .ref a :: rest)) := by
  subst hw
  exact va_putF (D := G.1) F.x F.b F.t hin ty0 hty hnm F.o I.K I.P I.D I.S q0 he hc k hk (F.t _ hl) hsame hfin F.2.2.2 hdecl (hty k hk) hn hfit hlen hdg (fun H1 locs1 hP hD hS => kk H1 locs1 ⟨I.KE, hP, hD, hS, I.A⟩)
theorem g_new {C : String} {T : u_T} {N ci index : Nat} {fs : List Value} (F : gF p m meth c cc nL ret s args own name) (I : Iw G A s ws H locs) (hin : ∀ w ∈ u_ws C T N, w ∈ lw_all) (ty0 : Nat → FieldType) (hty : ∀ k, k < N → parseFieldDescriptor (T k).2.2.1 = some (ty0 k)) (h1 : Cond.classLink own index C ∈ lw_all) (h2 : Cond.instantiable C N ∈ lw_all) (h3 : Cond.initialized C ∈ lw_all) (hc : gC[ci]? = some (C, T, N)) (hfs : ∀ j, j < N → defaultValue (ty0 j) = vp_V fs j) (hcells : cells + 1 ≤ R.cells) (hslots : slots + N ≤ R.slots) (hdg : decode cc pc = .ok (.new index, 3))
    (kk : ∀ (q : Nat) (H1 : Heap), Iw G A s (ws ++ [(q, .inr (ci, fs))]) H1 locs → W p l e R s m args below meth c H1 locs (cells + 1) (slots + N) Q (F0 m (pc + 3) ls (.ref q :: rest))) : W p l e R s m args below meth c H locs cells slots Q (F0 m pc ls rest) :=
  va_new F.x F.b F.t hin ty0 hty F.o (F.t _ h1) (F.t _ h2) (F.t _ h3) I.K I.P I.D I.S I.A hc hfs hcells hslots hdg (fun q H1 hP hD hS => kk q H1 ⟨I.KE, hP, hD, hS, I.A⟩)
theorem Iw.cls {ty : FieldType} {cA : ClassId} (I : Iw G A s ws H locs) (hK : va_K G.1 gC (gT G ++ [(cA, ty)]) s) {t0 : Nat} (ht : (gT G)[t0]? = some (G.2.1 t0, ty)) (hlen : t0 < 5) (hp : va_RA s (G.2.1 t0) ty → va_RA s cA ty → cA = G.2.1 t0) : cA = G.2.1 t0 := hp (I.K.2 t0 _ ht).2 (hK.2 5 (cA, ty) rfl).2
/-- a new array of ints -/
theorem g_newi (F : gF p m meth c cc nL ret s args own name) (I : Iw G A s ws H locs) (h : Cond.arrayClass .int ∈ lw_all) {n : Nat} (hn : n ≤ 100000) (hcells : cells + 1 ≤ R.cells) (hslots : slots + n ≤ R.slots) (hdg : decode cc pc = .ok (.newarray .int, 2))
    (kk : ∀ (q : Nat) (H1 : Heap), Iw G A s (ws ++ [(q, .inl (G.2.1 0, n, .inl (fun _ => 0)))]) H1 locs → W p l e R s m args below meth c H1 locs (cells + 1) (slots + n) Q (F0 m (pc + 2) ls (.ref q :: rest))) : W p l e R s m args below meth c H locs cells slots Q (F0 m pc ls (.int (nI n) :: rest)) :=
  va_newa (atype := .int) (a0 := (n, .inl (fun _ => 0))) F.x F.b (F.t _ h) rfl I.K I.P I.D I.S I.A (fun _ => rfl) (nI_pos (by omega)) (nI_clamp (by omega)) (by show n * 4 ≤ 536870912; omega) hcells hslots hdg (fun q cA H1 hK hP hD hS => by
    have e : cA = G.2.1 0 := I.cls hK (t0 := 0) rfl (by decide) (fun a b => Option.some.inj (b.symm.trans a))
    subst e
    exact kk q H1 ⟨I.KE, hP, hD, hS, I.A⟩)
theorem g_newb (F : gF p m meth c cc nL ret s args own name) (I : Iw G A s ws H locs) (h : Cond.arrayClass .byte ∈ lw_all) {n : Nat} (hn : n ≤ 100000) (hcells : cells + 1 ≤ R.cells) (hslots : slots + n ≤ R.slots) (hdg : decode cc pc = .ok (.newarray .byte, 2))
    (kk : ∀ (q : Nat) (H1 : Heap), Iw G A s (ws ++ [(q, .inl (G.2.1 1, n, .inl (fun _ => 0)))]) H1 locs → W p l e R s m args below meth c H1 locs (cells + 1) (slots + n) Q (F0 m (pc + 2) ls (.ref q :: rest))) : W p l e R s m args below meth c H locs cells slots Q (F0 m pc ls (.int (nI n) :: rest)) :=
  va_newa (atype := .byte) (a0 := (n, .inl (fun _ => 0))) F.x F.b (F.t _ h) rfl I.K I.P I.D I.S I.A (fun _ => rfl) (nI_pos (by omega)) (nI_clamp (by omega)) (by show n * 1 ≤ 536870912; omega) hcells hslots hdg (fun q cA H1 hK hP hD hS => by
    have e : cA = G.2.1 1 := I.cls hK (t0 := 1) rfl (by decide) (fun a b => Option.some.inj (b.symm.trans a))
    subst e
    exact kk q H1 ⟨I.KE, hP, hD, hS, I.A⟩)
theorem g_news (F : gF p m meth c cc nL ret s args own name) (I : Iw G A s ws H locs) (h : Cond.arrayClass .short ∈ lw_all) {n : Nat} (hn : n ≤ 100000) (hcells : cells + 1 ≤ R.cells) (hslots : slots + n ≤ R.slots) (hdg : decode cc pc = .ok (.newarray .short, 2))
    (kk : ∀ (q : Nat) (H1 : Heap), Iw G A s (ws ++ [(q, .inl (G.2.1 2, n, .inl (fun _ => 0)))]) H1 locs → W p l e R s m args below meth c H1 locs (cells + 1) (slots + n) Q (F0 m (pc + 2) ls (.ref q :: rest))) : W p l e R s m args below meth c H locs cells slots Q (F0 m pc ls (.int (nI n) :: rest)) :=
  va_newa (atype := .short) (a0 := (n, .inl (fun _ => 0))) F.x F.b (F.t _ h) rfl I.K I.P I.D I.S I.A (fun _ => rfl) (nI_pos (by omega)) (nI_clamp (by omega)) (by show n * 2 ≤ 536870912; omega) hcells hslots hdg (fun q cA H1 hK hP hD hS => by
    have e : cA = G.2.1 2 := I.cls hK (t0 := 2) rfl (by decide) (fun a b => Option.some.inj (b.symm.trans a))
    subst e
    exact kk q H1 ⟨I.KE, hP, hD, hS, I.A⟩)
theorem g_objInit {idx : Nat} (F : gF p m meth c cc nL ret s args own name) (h1 : Cond.methodLink own idx Lib.objectInit ∈ lw_all) (h2 : Cond.instanceMethod Lib.objectInit ∈ lw_all) (h3 : Cond.code Lib.objectInit ⟨#[0xb1]⟩ 1 none ∈ lw_all) (hsz : ls.size = nL) (hdg : decode cc pc = .ok (.invokespecial idx, 3)) (hfr : 1 ≤ R.frames) (hlo : (rest.map fun v => v.category).sum + 12 ≤ R.locals)
    (kk : W p l e R s m args below meth c H locs cells slots Q (F0 m (pc + 3) ls rest)) : W p l e R s m args below meth c H locs cells slots Q (F0 m pc ls (.ref a :: rest)) :=
  W.objInit F.x F.b F.o (F.t _ h1) (F.t _ h2) (F.t _ h3) rfl (by show ls.size = c.maxLocals; rw [hsz]; exact F.1.2.2.1.symm) rfl hdg hfr (by show 2 * 0 + _ + 12 ≤ _; omega) kk
/-- int arrays by their place in the world -/
theorem g_ild (F : gF p m meth c cc nL ret s args own name) (I : Iw G A s ws H locs) (q0 : Nat) {j n : Nat} {f : Nat → Int32} {v : Int32} (he : ws[q0]? = some (a, .inl (G.2.1 0, n, .inl f))) (hj : j < n) (hn : n < 2 ^ 31) (hv : f j = v) (hdg : decode cc pc = .ok (.iaload, 1))
    (kk : W p l e R s m args below meth c H locs cells slots Q (F0 m (pc + 1) ls (.int v :: rest))) : W p l e R s m args below meth c H locs cells slots Q (F0 m pc ls (.int (nI j) :: .ref a :: rest)) :=
  va_iald F.x F.b I.K I.P q0 0 he rfl (vp_in_nI hj hn) hdg (by rw [nI_clamp (Nat.lt_trans hj hn), hv]; exact kk)
theorem g_ist (F : gF p m meth c cc nL ret s args own name) (I : Iw G A s ws H locs) (q0 : Nat) {j n : Nat} {f : Nat → Int32} {x : Int32} {ws' : va_W} (he : ws[q0]? = some (a, .inl (G.2.1 0, n, .inl f))) (hj : j < n) (hn : n < 2 ^ 31) (hdg : decode cc pc = .ok (.iastore, 1)) (hw : ws.set q0 (a, .inl (G.2.1 0, n, .inl (upd f j x))) = ws')
    (kk : ∀ (H1 : Heap) (locs1 : List Loc), Iw G A s ws' H1 locs1 → W p l e R s m args below meth c H1 locs1 cells slots Q (F0 m (pc + 1) ls rest)) : W p l e R s m args below meth c H locs cells slots Q (F0 m pc ls (.int x :: .int (nI j) :: .ref a :: rest)) := by
  subst hw
  exact va_iast F.x F.b I.K I.P I.D I.S q0 0 he rfl (vp_in_nI hj hn) hdg (fun H1 locs1 hP hD hS => by rw [nI_clamp (Nat.lt_trans hj hn)] at hP hD; exact kk H1 locs1 ⟨I.KE, hP, hD, hS, I.A⟩)
end GK2
/-- the cell at a is now e -/
def wUp (ws : va_W) (a : Nat) (e : va_E) : va_W := ws.map (fun q => if q.1 = a then (a, e) else q)
theorem wUp_set {A : Nat → Prop} {ws : va_W} {a k : Nat} {e0 e : va_E} (hD : va_D A ws) (hk : ws[k]? = some (a, e0)) : ws.set k (a, e) = wUp ws a e := by
  apply List.ext_getElem?
  intro j
  unfold wUp
  rw [List.getElem?_map]
  by_cases h : j = k
  · subst h
    rw [List.getElem?_set_self (List.getElem?_eq_some_iff.mp hk).1, hk]
    simp
  · rw [List.getElem?_set_ne (Ne.symm h)]
    cases hj : ws[j]? with
    | none => rfl
    | some q =>
      have : q.1 ≠ a := fun z => h (hD.1 j k q (a, e0) hj hk z)
      simp [this]
theorem wUp_self {ws : va_W} {a : Nat} {e0 e : va_E} (h : (a, e0) ∈ ws) : (a, e) ∈ wUp ws a e := List.mem_map.mpr ⟨(a, e0), h, by simp⟩
theorem wUp_ne {ws : va_W} {a b : Nat} {e x : va_E} (h : (b, x) ∈ ws) (hb : b ≠ a) : (b, x) ∈ wUp ws a e := List.mem_map.mpr ⟨(b, x), h, by simp [hb]⟩
theorem wUp_app {w1 w2 : va_W} {a : Nat} {e : va_E} (h : ∀ q ∈ w1, q.1 ≠ a) : wUp (w1 ++ w2) a e = w1 ++ wUp w2 a e := by
  unfold wUp
  rw [List.map_append]
  congr 1
  conv => rhs; rw [← List.map_id w1]
  exact List.map_congr_left (fun q hq => by simp [h q hq])
/-- two cells of a world at one address are one -/
theorem va_D.mem {A : Nat → Prop} {ws : va_W} (hD : va_D A ws) {a : Nat} {x y : va_E} (h1 : (a, x) ∈ ws) (h2 : (a, y) ∈ ws) : x = y := by
  obtain ⟨i, hi⟩ := List.getElem?_of_mem h1
  obtain ⟨j, hj⟩ := List.getElem?_of_mem h2
  have := hD.1 i j _ _ hi hj rfl
  subst this
  rw [hi] at hj
  exact (Prod.mk.inj (Option.some.inj hj)).2
