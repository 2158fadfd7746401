/-! OWN KIT, 4: objects of classes with two fields of one name; inherited and overriding methods; nest mates; casts -/
set_option maxRecDepth 100000
abbrev nm2 (T : u_T) (N : Nat) : Prop := ∀ a, a < N → ∀ b, b < N → a ≠ b → (T a).2.1 ≠ (T b).2.1 ∨ ((T a).2.2.2 = true ∧ (T b).2.2.2 = true ∧ (T a).1 ≠ (T b).1)
theorem nm2X5 : nm2 TX5 7 := by decide +kernel
theorem nm2X6 : nm2 TX6 8 := by decide +kernel
theorem nm2X7 : nm2 TX7 9 := by decide +kernel
theorem fin_apart {args : Array Value} {s : State} {C O f d O' f' d' : String} (h : (Cond.laysFinal C O f d).before args s = true) (h' : (Cond.laysFinal C O' f' d').before args s = true) {cf kf fi fd cf' kf' fi' fd'} (hi : s.fieldFound? O f d = some (cf, kf, fi, fd)) (hi' : s.fieldFound? O' f' d' = some (cf', kf', fi', fd')) (hne : O ≠ O') : fd.slot ≠ fd'.slot := by
  obtain ⟨a, k, c1, k1, i1, f1, r1, r2, g1, -, -, -, o1, -, d1, e1, e2, -⟩ := Cond.laysFinal_spec h
  obtain ⟨a', k', c2, k2, i2, f2, r1', r2', g2, -, -, -, o2, -, d2, e1', e2', -⟩ := Cond.laysFinal_spec h'
  cases hi.symm.trans g1
  cases hi'.symm.trans g2
  cases r1.symm.trans r1'
  intro hs
  rw [hs] at e1
  cases e1.symm.trans e1'
  obtain ⟨x1, y1, z1⟩ := Vm.findClass_spec o1
  obtain ⟨x2, y2, z2⟩ := Vm.findClass_spec o2
  have w1 := (State.fieldFound?_spec hi).1
  have w2 := (State.fieldFound?_spec hi').1
  cases y1.symm.trans w1
  cases y2.symm.trans w2
  exact hne (z1.symm.trans ((e2.symm.trans e2').trans z2))
section GK4
variable {p : Program} {l : Launch} {e : Env} {R : Room} {s : State} {m : MethodId} {args : Array Value} {below : List Frame} {meth : Method} {c : Code} {H : Heap} {locs : List Loc} {cells slots : Nat} {Q : State → Prop}
variable {cc : ByteArray} {nL : Nat} {ret : Option FieldType} {own name : String} {G : gG} {A : Nat → Prop} {ws : va_W} {pc : Nat} {ls : Array Slot} {rest : List Value} {a : Nat}
theorem g_apart {C : String} {T : u_T} {N ci : Nat} (F : gF p m meth c cc nL ret s args own name) (I : Iw G A s ws H locs) (hin : ∀ w ∈ u_ws C T N, w ∈ lw_all) (ty0 : Nat → FieldType) (hty : ∀ k, k < N → parseFieldDescriptor (T k).2.2.1 = some (ty0 k)) (hnm : nm2 T N) (hc : gC[ci]? = some (C, T, N)) : ∀ x y, x < N → y < N → x ≠ y → (G.1.2 ci) x ≠ (G.1.2 ci) y := by
  intro x y hx hy hne
  obtain ⟨hS, -⟩ := I.K.1 ci _ hc
  obtain ⟨_, _, _, fa, hia, ea⟩ := hS x hx
  obtain ⟨_, _, _, fb, hib, eb⟩ := hS y hy
  rw [← ea, ← eb]
  rcases hnm x hx y hy hne with h | ⟨h1, h2, h3⟩
  · refine u_apart (u_lays F.t hin hx) (u_lays F.t hin hy) hia hib ?_
    rw [(State.fieldFound?_type hia (hty x hx)).1, (State.fieldFound?_type hib (hty y hy)).1]
    exact h
  · have q1 := F.t _ (hin _ (u_in_lay hx))
    have q2 := F.t _ (hin _ (u_in_lay hy))
    unfold u_lay at q1 q2
    rw [if_pos h1] at q1
    rw [if_pos h2] at q2
    exact fin_apart q1 q2 hia hib h3
theorem g_put2 {ref C : String} {T : u_T} {N ci index : Nat} {fs : List Value} {v : Value} {ws' : va_W} (F : gF p m meth c cc nL ret s args own name) (I : Iw G A s ws H locs) (hin : ∀ w ∈ u_ws C T N, w ∈ lw_all) (ty0 : Nat → FieldType) (hty : ∀ k, k < N → parseFieldDescriptor (T k).2.2.1 = some (ty0 k)) (hnm : nm2 T N) (hc : gC[ci]? = some (C, T, N)) (q0 : Nat) (he : ws[q0]? = some (a, .inr (ci, fs))) (k : Nat) (hk : k < N) (hl : Cond.fieldLink own index ref (T k).2.1 (T k).2.2.1 ∈ lw_all) (hsame : ∀ x, s.fieldFound? (T k).1 (T k).2.1 (T k).2.2.1 = some x → s.fieldFound? ref (T k).2.1 (T k).2.2.1 = some x) (hfin : (T k).2.2.2 = false) (hn : narrow (ty0 k) v = v) (hfit : fits (ty0 k) v = true) (hlen : k < fs.length) (hdg : decode cc pc = .ok (.putfield index, 3)) (hw : ws.set q0 (a, .inr (ci, fs.set k v)) = ws')
    (kk : ∀ (H1 : Heap) (locs1 : List Loc), Iw G A s ws' H1 locs1 → W p l e R s m args below meth c H1 locs1 cells slots Q (F0 m (pc + 3) ls rest)) : W p l e R s m args below meth c H locs cells slots Q (F0 m pc ls (v :: .ref a :: rest)) := by
  subst hw
  have hap := g_apart F I hin ty0 hty hnm hc
  obtain ⟨r, h1, cell, q1, q2, q3, q4⟩ := I.P q0 _ he
  have hr : r = (C, T, N) := Option.some.inj (h1.symm.trans hc)
  subst hr
  obtain ⟨hS, hfc, kC, hkC, hkind⟩ := I.K.1 ci _ hc
  obtain ⟨cf, kf, fi, f, hi, hsl⟩ := hS k hk
  have hlay := F.t _ (hin _ (u_in_lay hk))
  unfold u_lay at hlay
  rw [if_neg (by rw [hfin]; decide)] at hlay
  have hst := (u_facts hfc hkC (u_lays F.t hin hk) hi).1
  have h6 := u_store hfc hkC hkind hlay hi (hty k hk) hn hfit
  refine W.putK F.x F.b (f := f) ⟨F.o, F.t _ hl, ⟨_, _, _, hsame _ hi⟩, hst⟩ (by rw [q2]; exact h6) q1 q3 (by rw [hsl]; exact k2_hasslot (q4 k hk)) rfl rfl hdg fun H' e1 e2 e3 => ?_
  rw [hsl] at e1 ⊢
  exact kk H' _ ⟨I.KE, I.P.set I.D he ⟨_, hc, t_OB.to (V := updV (vp_V fs) k v) ⟨_, e1, q2, q3, t_set q4 hap hk v⟩ (fun j _ => vp_updV_set hlen v j)⟩ e3, I.D.set he, I.S.put e2 e3 (I.D.2 q0 _ he), I.A⟩
theorem g_putF2 {ref C : String} {T : u_T} {N ci index : Nat} {fs : List Value} {v : Value} {ws' : va_W} (F : gF p m meth c cc nL ret s args own "<init>") (I : Iw G A s ws H locs) (hin : ∀ w ∈ u_ws C T N, w ∈ lw_all) (ty0 : Nat → FieldType) (hty : ∀ k, k < N → parseFieldDescriptor (T k).2.2.1 = some (ty0 k)) (hnm : nm2 T N) (hc : gC[ci]? = some (C, T, N)) (q0 : Nat) (he : ws[q0]? = some (a, .inr (ci, fs))) (k : Nat) (hk : k < N) (hl : Cond.fieldLink own index ref (T k).2.1 (T k).2.2.1 ∈ lw_all) (hsame : ∀ x, s.fieldFound? (T k).1 (T k).2.1 (T k).2.2.1 = some x → s.fieldFound? ref (T k).2.1 (T k).2.2.1 = some x) (hfin : (T k).2.2.2 = true) (hdecl : (T k).1 = own) (hn : narrow (ty0 k) v = v) (hfit : fits (ty0 k) v = true) (hlen : k < fs.length) (hdg : decode cc pc = .ok (.putfield index, 3)) (hw : ws.set q0 (a, .inr (ci, fs.set k v)) = ws')
    (kk : ∀ (H1 : Heap) (locs1 : List Loc), Iw G A s ws' H1 locs1 → W p l e R s m args below meth c H1 locs1 cells slots Q (F0 m (pc + 3) ls rest)) : W p l e R s m args below meth c H locs cells slots Q (F0 m pc ls (v :: .ref a :: rest)) := by
  subst hw
  have hap := g_apart F I hin ty0 hty hnm hc
  obtain ⟨r, h1, cell, q1, q2, q3, q4⟩ := I.P q0 _ he
  have hr : r = (C, T, N) := Option.some.inj (h1.symm.trans hc)
  subst hr
  obtain ⟨hS, hfc, kC, hkC, hkind⟩ := I.K.1 ci _ hc
  obtain ⟨cf, kf, fi, f, hi, hsl⟩ := hS k hk
  have hlay := F.t _ (hin _ (u_in_lay hk))
  unfold u_lay at hlay
  rw [if_pos hfin] at hlay
  have hst := (u_facts hfc hkC (u_lays F.t hin hk) hi).1
  have hcf : m.cls = cf := by
    obtain ⟨_, _, c', _, _, _, -, -, hf', -, -, -, hown2, -⟩ := Cond.laysFinal_spec hlay
    have e1 : c' = cf := by have := hi.symm.trans hf'; simp at this; exact this.1.symm
    rw [hdecl] at hown2
    rw [← e1]; exact Option.some.inj (F.o.symm.trans hown2)
  have h6 := u_fits hfc hkC hkind (Or.inr hlay) hi (hty k hk) hn hfit
  refine W.putFinK F.x F.b F.o (F.t _ hl) (hsame _ hi) hst hcf F.2.2.2 (by rw [q2]; exact h6) q1 q3 (by rw [hsl]; exact k2_hasslot (q4 k hk)) rfl rfl hdg fun H' e1 e2 e3 => ?_
  rw [hsl] at e1 ⊢
  exact kk H' _ ⟨I.KE, I.P.set I.D he ⟨_, hc, t_OB.to (V := updV (vp_V fs) k v) ⟨_, e1, q2, q3, t_set q4 hap hk v⟩ (fun j _ => vp_updV_set hlen v j)⟩ e3, I.D.set he, I.S.put e2 e3 (I.D.2 q0 _ he), I.A⟩
/-- fields of a nest mate -/
theorem g_getN {ref C host : String} {T : u_T} {N ci index : Nat} {fs : List Value} {v : Value} (F : gF p m meth c cc nL ret s args own name) (I : Iw G A s ws H locs) (hin : ∀ w ∈ u_ws C T N, w ∈ lw_all) (hc : gC[ci]? = some (C, T, N)) (q0 : Nat) (he : ws[q0]? = some (a, .inr (ci, fs))) (k : Nat) (hk : k < N) (hl : Cond.fieldLinkNest own index ref (T k).2.1 (T k).2.2.1 host ∈ lw_tbl) (hsame : ∀ x, s.fieldFound? (T k).1 (T k).2.1 (T k).2.2.1 = some x → s.fieldFound? ref (T k).2.1 (T k).2.2.1 = some x) (hv : fs[k]? = some v) (hdg : decode cc pc = .ok (.getfield index, 3))
    (kk : W p l e R s m args below meth c H locs cells slots Q (F0 m (pc + 3) ls (v :: rest))) : W p l e R s m args below meth c H locs cells slots Q (F0 m pc ls (.ref a :: rest)) :=
  va_getN (D := G.1) F.x F.b F.t hin F.o I.K I.P q0 he hc k hk (va_Nw.use rfl (I.nestF hl)) hsame hv hdg kk
theorem g_putN {ref C host : String} {T : u_T} {N ci index : Nat} {fs : List Value} {v : Value} {ws' : va_W} (F : gF p m meth c cc nL ret s args own name) (I : Iw G A s ws H locs) (hin : ∀ w ∈ u_ws C T N, w ∈ lw_all) (ty0 : Nat → FieldType) (hty : ∀ k, k < N → parseFieldDescriptor (T k).2.2.1 = some (ty0 k)) (hnm : ∀ a, a < N → ∀ b, b < N → a ≠ b → (T a).2.1 ≠ (T b).2.1) (hc : gC[ci]? = some (C, T, N)) (q0 : Nat) (he : ws[q0]? = some (a, .inr (ci, fs))) (k : Nat) (hk : k < N) (hl : Cond.fieldLinkNest own index ref (T k).2.1 (T k).2.2.1 host ∈ lw_tbl) (hsame : ∀ x, s.fieldFound? (T k).1 (T k).2.1 (T k).2.2.1 = some x → s.fieldFound? ref (T k).2.1 (T k).2.2.1 = some x) (hfin : (T k).2.2.2 = false) (hn : narrow (ty0 k) v = v) (hfit : fits (ty0 k) v = true) (hlen : k < fs.length) (hdg : decode cc pc = .ok (.putfield index, 3)) (hw : ws.set q0 (a, .inr (ci, fs.set k v)) = ws')
    (kk : ∀ (H1 : Heap) (locs1 : List Loc), Iw G A s ws' H1 locs1 → W p l e R s m args below meth c H1 locs1 cells slots Q (F0 m (pc + 3) ls rest)) : W p l e R s m args below meth c H locs cells slots Q (F0 m pc ls (v :: .ref a :: rest)) := by
  subst hw
  exact va_putN (D := G.1) F.x F.b F.t hin ty0 hty hnm F.o I.K I.P I.D I.S q0 he hc k hk (va_Nw.use rfl (I.nestF hl)) hsame hfin (hty k hk) hn hfit hlen hdg (fun H1 locs1 hP hD hS => kk H1 locs1 ⟨I.KE, hP, hD, hS, I.A⟩)
/-- calls whose method another class has: inherited, overriding, abstract; a superclass's own -/
theorem lw_U {own C owner : String} {idx : Nat} {x y : MethodName} {b : ByteArray} {L : Nat} {r : Option FieldType} (h1 : Cond.methodLink own idx x ∈ lw_all) (h2 : Cond.sameMethod x.cls owner x.name x.desc ∈ lw_all) (h3 : Cond.selects C x y ∈ lw_all) (h4 : Cond.instanceMethod y ∈ lw_all) (h5 : Cond.initialized y.cls ∈ lw_all) (h6 : Cond.code y b L r ∈ lw_all) : GoodIn lw_all (va_wsU own idx C owner x y (ws_ y b L r)) := by
  refine lw_app ?_ (lw_meth h6)
  intro w hw
  simp only [List.mem_cons, List.not_mem_nil, or_false] at hw
  rcases hw with e | e | e | e | e <;> rw [e] <;> assumption
theorem lw_O {own C owner : String} {idx : Nat} {x y : MethodName} {b : ByteArray} {L : Nat} {r : Option FieldType} (h1 : Cond.methodLink own idx x ∈ lw_all) (h2 : Cond.sameMethod x.cls owner x.name x.desc ∈ lw_all) (h7 : Cond.instanceMethod ⟨owner, x.name, x.desc⟩ ∈ lw_all) (h3 : Cond.selects C x y ∈ lw_all) (h4 : Cond.instanceMethod y ∈ lw_all) (h5 : Cond.initialized y.cls ∈ lw_all) (h6 : Cond.code y b L r ∈ lw_all) : GoodIn lw_all (va_wsO own idx C owner x y (ws_ y b L r)) := by
  refine lw_app ?_ (lw_meth h6)
  intro w hw
  simp only [List.mem_cons, List.not_mem_nil, or_false] at hw
  rcases hw with e | e | e | e | e | e <;> rw [e] <;> assumption
theorem lw_SU {own : String} {idx : Nat} {y : MethodName} {b : ByteArray} {L : Nat} {r : Option FieldType} (h1 : Cond.methodLink own idx y ∈ lw_all) (h2 : Cond.sameMethod y.cls y.cls y.name y.desc ∈ lw_all) (h3 : Cond.superclass own y.cls ∈ lw_all) (h4 : Cond.instanceMethod y ∈ lw_all) (h5 : Cond.initialized y.cls ∈ lw_all) (h6 : Cond.code y b L r ∈ lw_all) : GoodIn lw_all (va_wsSU own idx y (ws_ y b L r)) := by
  refine lw_app ?_ (lw_meth h6)
  intro w hw
  simp only [List.mem_cons, List.not_mem_nil, or_false] at hw
  rcases hw with e | e | e | e | e <;> rw [e] <;> assumption
theorem g_runU {x y : MethodName} {bytes : ByteArray} {maxL n index ci : Nat} {yret : Option FieldType} {rm : Room} {Qc : Array Value → State → Outcome → State → Prop} {b : Addr} {As : List Value} {T : u_T} {N q0 : Nat} {fs : List Value} {C owner : String} {g : JFrame} {free : Nat → Prop}
    (F : gF p m meth c cc nL ret s args own name) (I : Iw G A s ws H locs) (hM : Met l y (ws_ y bytes maxL yret) rm (gPc G (.ref b :: As) ws H.size) Qc rm.cells rm.slots free)
    (h1 : Cond.methodLink own index x ∈ lw_all) (h2 : Cond.sameMethod x.cls owner x.name x.desc ∈ lw_all) (h3 : Cond.selects C x y ∈ lw_all) (h4 : Cond.instanceMethod y ∈ lw_all) (h5 : Cond.initialized y.cls ∈ lw_all) (h6 : Cond.code y bytes maxL yret ∈ lw_all) (hyx : y = ⟨owner, x.name, x.desc⟩)
    (hd : owner ≠ "java/lang/invoke/MethodHandle" ∧ owner ≠ "java/lang/invoke/VarHandle" ∧ (parseMethodDescriptor x.desc).map (fun d => d.parameters.length) = some n) (hR : rm.frames + 1 ≤ R.frames ∧ 8 + (maxL + 11) + rm.locals ≤ R.locals)
    (hc : gC[ci]? = some (C, T, N)) (he : ws[q0]? = some (b, .inr (ci, fs))) (hg : g.method = m) (hn : As.length = n) (hsize : g.locals.size = nL) (hstack : g.stack = As.reverse ++ .ref b :: rest) (hW : 2 * g.monitorRoom + (rest.map fun v => v.category).sum ≤ 8) (hdg : decode cc g.pc = .ok (.invokevirtual index, 3)) (hf : cells + rm.cells ≤ R.cells ∧ slots + rm.slots ≤ R.slots) :
    va_Run p l e R s m args below meth c H locs cells slots rm.cells rm.slots g rest (Qc (Value.ref b :: As).toArray) free :=
  va_runU F.1 hM (va_cwU n F.t (lw_U h1 h2 h3 h4 h5 h6) rfl rfl rfl hyx hd hR) ⟨gPc.blind _ _ _ _, va_recv I.K I.P hc he, I.pre _⟩ hg hn hsize hstack hW hdg hf
theorem g_runO {x y : MethodName} {bytes : ByteArray} {maxL n index ci : Nat} {yret : Option FieldType} {rm : Room} {Qc : Array Value → State → Outcome → State → Prop} {b : Addr} {As : List Value} {T : u_T} {N q0 : Nat} {fs : List Value} {C owner : String} {g : JFrame} {free : Nat → Prop} {b0 : ByteArray} {m0 : Nat} {r0 : Option FieldType}
    (F : gF p m meth c cc nL ret s args own name) (I : Iw G A s ws H locs) (hM : Met l y (ws_ y bytes maxL yret) rm (gPc G (.ref b :: As) ws H.size) Qc rm.cells rm.slots free)
    (h1 : Cond.methodLink own index x ∈ lw_all) (h2 : Cond.sameMethod x.cls owner x.name x.desc ∈ lw_all) (h7 : Cond.instanceMethod ⟨owner, x.name, x.desc⟩ ∈ lw_all) (h3 : Cond.selects C x y ∈ lw_all) (h4 : Cond.instanceMethod y ∈ lw_all) (h5 : Cond.initialized y.cls ∈ lw_all) (h6 : Cond.code y bytes maxL yret ∈ lw_all) (h0 : Cond.code ⟨owner, x.name, x.desc⟩ b0 m0 r0 ∈ lw_all)
    (hd : owner ≠ "java/lang/invoke/MethodHandle" ∧ owner ≠ "java/lang/invoke/VarHandle" ∧ (parseMethodDescriptor x.desc).map (fun d => d.parameters.length) = some n) (hR : rm.frames + 1 ≤ R.frames ∧ 8 + (maxL + 11) + rm.locals ≤ R.locals)
    (hc : gC[ci]? = some (C, T, N)) (he : ws[q0]? = some (b, .inr (ci, fs))) (hg : g.method = m) (hn : As.length = n) (hsize : g.locals.size = nL) (hstack : g.stack = As.reverse ++ .ref b :: rest) (hW : 2 * g.monitorRoom + (rest.map fun v => v.category).sum ≤ 8) (hdg : decode cc g.pc = .ok (.invokevirtual index, 3)) (hf : cells + rm.cells ≤ R.cells ∧ slots + rm.slots ≤ R.slots) :
    va_Run p l e R s m args below meth c H locs cells slots rm.cells rm.slots g rest (Qc (Value.ref b :: As).toArray) free :=
  va_runU F.1 hM (va_cwO n F.t (lw_O h1 h2 h7 h3 h4 h5 h6) rfl rfl rfl h0 hd hR) ⟨gPc.blind _ _ _ _, va_recv I.K I.P hc he, I.pre _⟩ hg hn hsize hstack hW hdg hf
theorem g_runA {x y : MethodName} {bytes : ByteArray} {maxL n index ci : Nat} {yret : Option FieldType} {rm : Room} {Qc : Array Value → State → Outcome → State → Prop} {b : Addr} {As : List Value} {T : u_T} {N q0 : Nat} {fs : List Value} {C owner : String} {g : JFrame} {free : Nat → Prop}
    (F : gF p m meth c cc nL ret s args own name) (I : Iw G A s ws H locs) (hM : Met l y (ws_ y bytes maxL yret) rm (gPc G (.ref b :: As) ws H.size) Qc rm.cells rm.slots free)
    (h1 : Cond.methodLink own index x ∈ lw_all) (h2 : Cond.sameMethod x.cls owner x.name x.desc ∈ lw_all) (h3 : Cond.selects C x y ∈ lw_all) (h4 : Cond.instanceMethod y ∈ lw_all) (h5 : Cond.initialized y.cls ∈ lw_all) (h6 : Cond.code y bytes maxL yret ∈ lw_all) (hz : Cond.declares ⟨owner, x.name, x.desc⟩ ∈ lw_tbl)
    (hd : owner ≠ "java/lang/invoke/MethodHandle" ∧ owner ≠ "java/lang/invoke/VarHandle" ∧ (parseMethodDescriptor x.desc).map (fun d => d.parameters.length) = some n) (hR : rm.frames + 1 ≤ R.frames ∧ 8 + (maxL + 11) + rm.locals ≤ R.locals)
    (hc : gC[ci]? = some (C, T, N)) (he : ws[q0]? = some (b, .inr (ci, fs))) (hg : g.method = m) (hn : As.length = n) (hsize : g.locals.size = nL) (hstack : g.stack = As.reverse ++ .ref b :: rest) (hW : 2 * g.monitorRoom + (rest.map fun v => v.category).sum ≤ 8) (hdg : decode cc g.pc = .ok (.invokevirtual index, 3)) (hf : cells + rm.cells ≤ R.cells ∧ slots + rm.slots ≤ R.slots) :
    va_Run p l e R s m args below meth c H locs cells slots rm.cells rm.slots g rest (Qc (Value.ref b :: As).toArray) free :=
  va_runU F.1 hM (va_cwA n F.t (lw_U h1 h2 h3 h4 h5 h6) rfl rfl rfl (va_Nw.warmD I.E.1 (va_Nw.of rfl (I.E.2.1 _ hz))) hd hR) ⟨gPc.blind _ _ _ _, va_recv I.K I.P hc he, I.pre _⟩ hg hn hsize hstack hW hdg hf
theorem g_runSU {y : MethodName} {bytes : ByteArray} {maxL n index ci : Nat} {yret : Option FieldType} {rm : Room} {Qc : Array Value → State → Outcome → State → Prop} {b : Addr} {As : List Value} {T : u_T} {N q0 : Nat} {fs : List Value} {C : String} {g : JFrame} {free : Nat → Prop}
    (F : gF p m meth c cc nL ret s args own name) (I : Iw G A s ws H locs) (hM : Met l y (ws_ y bytes maxL yret) rm (gPc G (.ref b :: As) ws H.size) Qc rm.cells rm.slots free)
    (h1 : Cond.methodLink own index y ∈ lw_all) (h2 : Cond.sameMethod y.cls y.cls y.name y.desc ∈ lw_all) (h3 : Cond.superclass own y.cls ∈ lw_all) (h4 : Cond.instanceMethod y ∈ lw_all) (h5 : Cond.initialized y.cls ∈ lw_all) (h6 : Cond.code y bytes maxL yret ∈ lw_all)
    (hd : y.name ≠ "<init>" ∧ (parseMethodDescriptor y.desc).map (fun d => d.parameters.length) = some n) (hR : rm.frames + 1 ≤ R.frames ∧ 8 + (maxL + 11) + rm.locals ≤ R.locals)
    (hc : gC[ci]? = some (C, T, N)) (he : ws[q0]? = some (b, .inr (ci, fs))) (hg : g.method = m) (hn : As.length = n) (hsize : g.locals.size = nL) (hstack : g.stack = As.reverse ++ .ref b :: rest) (hW : 2 * g.monitorRoom + (rest.map fun v => v.category).sum ≤ 8) (hdg : decode cc g.pc = .ok (.invokespecial index, 3)) (hf : cells + rm.cells ≤ R.cells ∧ slots + rm.slots ≤ R.slots) :
    va_Run p l e R s m args below meth c H locs cells slots rm.cells rm.slots g rest (Qc (Value.ref b :: As).toArray) free :=
  va_runSU (I.K.1 ci _ hc).2 F.1 hM (va_cwSU n F.t (lw_SU h1 h2 h3 h4 h5 h6) rfl rfl rfl hd hR) ⟨gPc.blind _ _ _ _, va_recv I.K I.P hc he, I.pre _⟩ hg hn hsize hstack hW hdg hf
/-- a nest mate's private methods -/
theorem g_runVN {y : MethodName} {bytes : ByteArray} {maxL n index ci : Nat} {yret : Option FieldType} {rm : Room} {Qc : Array Value → State → Outcome → State → Prop} {b : Addr} {As : List Value} {T : u_T} {N q0 : Nat} {fs : List Value} {C host : String} {g : JFrame} {free : Nat → Prop}
    (F : gF p m meth c cc nL ret s args own name) (I : Iw G A s ws H locs) (hM : Met l y (ws_ y bytes maxL yret) rm (gPc G (.ref b :: As) ws H.size) Qc rm.cells rm.slots free)
    (h1 : Cond.methodLinkNest own index y host ∈ lw_tbl) (h2 : Cond.instanceMethod y ∈ lw_all) (h3 : Cond.selects C y y ∈ lw_all) (h4 : Cond.initialized y.cls ∈ lw_all) (h5 : Cond.code y bytes maxL yret ∈ lw_all)
    (hd : y.cls ≠ "java/lang/invoke/MethodHandle" ∧ y.cls ≠ "java/lang/invoke/VarHandle" ∧ (parseMethodDescriptor y.desc).map (fun d => d.parameters.length) = some n) (hR : rm.frames + 1 ≤ R.frames ∧ 8 + (maxL + 11) + rm.locals ≤ R.locals)
    (hc : gC[ci]? = some (C, T, N)) (he : ws[q0]? = some (b, .inr (ci, fs))) (hg : g.method = m) (hn : As.length = n) (hsize : g.locals.size = nL) (hstack : g.stack = As.reverse ++ .ref b :: rest) (hW : 2 * g.monitorRoom + (rest.map fun v => v.category).sum ≤ 8) (hdg : decode cc g.pc = .ok (.invokevirtual index, 3)) (hf : cells + rm.cells ≤ R.cells ∧ slots + rm.slots ≤ R.slots) :
    va_Run p l e R s m args below meth c H locs cells slots rm.cells rm.slots g rest (Qc (Value.ref b :: As).toArray) free :=
  va_runVN F.1 hM ⟨va_cnB n F.t (lw_meth h5) rfl rfl rfl (I.nestM h1) (F.t _ h4) hd hR, F.t _ h2, F.t _ h3⟩ ⟨gPc.blind _ _ _ _, va_recv I.K I.P hc he, I.pre _⟩ hg hn hsize hstack hW hdg hf
theorem g_runSN {y : MethodName} {bytes : ByteArray} {maxL n index : Nat} {yret : Option FieldType} {rm : Room} {Qc : Array Value → State → Outcome → State → Prop} {As : List Value} {host : String} {g : JFrame} {free : Nat → Prop}
    (F : gF p m meth c cc nL ret s args own name) (I : Iw G A s ws H locs) (hM : Met l y (ws_ y bytes maxL yret) rm (gPc G As ws H.size) Qc rm.cells rm.slots free)
    (h1 : Cond.methodLinkNest own index y host ∈ lw_tbl) (h2 : Cond.static y ∈ lw_all) (h4 : Cond.initialized y.cls ∈ lw_all) (h5 : Cond.code y bytes maxL yret ∈ lw_all)
    (hd : y.cls ≠ "java/lang/invoke/MethodHandle" ∧ y.cls ≠ "java/lang/invoke/VarHandle" ∧ (parseMethodDescriptor y.desc).map (fun d => d.parameters.length) = some n) (hR : rm.frames + 1 ≤ R.frames ∧ 8 + (maxL + 11) + rm.locals ≤ R.locals)
    (hg : g.method = m) (hn : As.length = n) (hsize : g.locals.size = nL) (hstack : g.stack = As.reverse ++ rest) (hW : 2 * g.monitorRoom + (rest.map fun v => v.category).sum ≤ 8) (hdg : decode cc g.pc = .ok (.invokestatic index, 3)) (hf : cells + rm.cells ≤ R.cells ∧ slots + rm.slots ≤ R.slots) :
    va_Run p l e R s m args below meth c H locs cells slots rm.cells rm.slots g rest (Qc As.toArray) free :=
  va_runSN F.1 hM ⟨va_cnB n F.t (lw_meth h5) rfl rfl rfl (I.nestM h1) (F.t _ h4) hd hR, F.t _ h2, trivial⟩ ⟨gPc.blind _ _ _ _, I.pre _⟩ hg hn hsize hstack hW hdg hf
theorem g_runIN {y : MethodName} {bytes : ByteArray} {maxL n index : Nat} {rm : Room} {Qc : Array Value → State → Outcome → State → Prop} {b : Addr} {As : List Value} {host : String} {g : JFrame} {free : Nat → Prop}
    (F : gF p m meth c cc nL ret s args own name) (I : Iw G A s ws H locs) (hM : Met l y (ws_ y bytes maxL none) rm (gPc G (.ref b :: As) ws H.size) Qc rm.cells rm.slots free)
    (h1 : Cond.methodLinkNest own index y host ∈ lw_tbl) (h2 : Cond.instanceMethod y ∈ lw_all) (h4 : Cond.initialized y.cls ∈ lw_all) (h5 : Cond.code y bytes maxL none ∈ lw_all) (hy1 : y.name = "<init>")
    (hd : y.cls ≠ "java/lang/invoke/MethodHandle" ∧ y.cls ≠ "java/lang/invoke/VarHandle" ∧ (parseMethodDescriptor y.desc).map (fun d => d.parameters.length) = some n) (hR : rm.frames + 1 ≤ R.frames ∧ 8 + (maxL + 11) + rm.locals ≤ R.locals)
    (hg : g.method = m) (hn : As.length = n) (hsize : g.locals.size = nL) (hstack : g.stack = As.reverse ++ .ref b :: rest) (hW : 2 * g.monitorRoom + (rest.map fun v => v.category).sum ≤ 8) (hdg : decode cc g.pc = .ok (.invokespecial index, 3)) (hf : cells + rm.cells ≤ R.cells ∧ slots + rm.slots ≤ R.slots) :
    va_Run p l e R s m args below meth c H locs cells slots rm.cells rm.slots g rest (Qc (Value.ref b :: As).toArray) free :=
  va_runIN F.1 hM ⟨va_cnB n F.t (lw_meth h5) rfl rfl rfl (I.nestM h1) (F.t _ h4) hd hR, hy1, F.t _ h2⟩ ⟨gPc.blind _ _ _ _, I.pre _⟩ hg hn hsize hstack hW hdg hf
/-- casts of objects -/
theorem g_castY {C nm : String} {T : u_T} {N ci index q0 : Nat} {fs : List Value} (F : gF p m meth c cc nL ret s args own name) (I : Iw G A s ws H locs) (hc : gC[ci]? = some (C, T, N)) (he : ws[q0]? = some (a, .inr (ci, fs))) (h1 : Cond.classLink own index nm ∈ lw_all) (h2 : Cond.castable C nm ∈ lw_tbl) (hdg : decode cc pc = .ok (.checkcast index, 3))
    (kk : W p l e R s m args below meth c H locs cells slots Q (F0 m (pc + 3) ls (.ref a :: rest))) : W p l e R s m args below meth c H locs cells slots Q (F0 m pc ls (.ref a :: rest)) :=
  va_castY F.x F.b F.o (F.t _ h1) (I.cast h2) (va_recv I.K I.P hc he) hdg kk
theorem g_castE {C : String} {T : u_T} {N ci index q0 : Nat} {fs : List Value} (F : gF p m meth c cc nL ret s args own name) (I : Iw G A s ws H locs) (hc : gC[ci]? = some (C, T, N)) (he : ws[q0]? = some (a, .inr (ci, fs))) (h1 : Cond.classLink own index C ∈ lw_all) (hdg : decode cc pc = .ok (.checkcast index, 3))
    (kk : W p l e R s m args below meth c H locs cells slots Q (F0 m (pc + 3) ls (.ref a :: rest))) : W p l e R s m args below meth c H locs cells slots Q (F0 m pc ls (.ref a :: rest)) :=
  va_castE F.x F.b F.o (F.t _ h1) (va_recv I.K I.P hc he) hdg kk
end GK4
