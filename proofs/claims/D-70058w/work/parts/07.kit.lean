/-! OWN KIT: one world for a method and all that it calls; rows over it -/
set_option maxRecDepth 100000
/-- all classes whose objects stand in a world, by number -/
abbrev gC : List vw_C := [(RX1, TX1, 29), (RX0, TX0, 14), (RX5, TX5, 7), (RX6, TX6, 8), (RX7, TX7, 9), (RJ2, TJ2, 3), (RX9, TX9, 2), (RX10, TX10, 1), (RX4, TX4, 7), (RX8, TX8, 9), (RX11, TX11, 7), (RX12, TX12, 4), (RJ11, TJ11, 6)]
/-- the classes' numbers, the array classes' numbers, the claim's start and its arguments -/
abbrev gG : Type := va_G × (Nat → ClassId) × State × Array Value
abbrev gT (G : gG) : List (ClassId × FieldType) := [(G.2.1 0, .int), (G.2.1 1, .byte), (G.2.1 2, .short), (G.2.1 3, .object "CheeseValleys$Sheet"), (G.2.1 4, .object "java/lang/Object")]
/-- what holds of the claim's start still holds: its words, its heap; A has no cell of it -/
def gE (G : gG) (A : Nat → Prop) (U : State) : Prop := G.2.2.1.WarmedH U.vm ∧ (∀ w ∈ lw_tbl, w.before G.2.2.2 G.2.2.1 = true) ∧ (Jvm.Cond.and given_1 narrow_1).before G.2.2.2 G.2.2.1 = true ∧ (∀ q : Nat, q < G.2.2.1.heap.size → U.heap[q]? = G.2.2.1.heap[q]?) ∧ (∀ q : Nat, A q → G.2.2.1.heap.size ≤ q) ∧ G.2.2.1.heap.size ≤ U.heap.size
/-- the world ws stands in the heap H; since s nothing outside A has changed -/
def Iw (G : gG) (A : Nat → Prop) (s : State) (ws : va_W) (H : Heap) (locs : List Loc) : Prop := (va_K G.1 gC (gT G) s ∧ gE G A s) ∧ va_P G.1 gC ws H ∧ va_D A ws ∧ va_S A s.heap H locs ∧ ∀ q : Nat, s.heap.size ≤ q → A q
theorem Iw.K {G : gG} {A : Nat → Prop} {s : State} {ws : va_W} {H : Heap} {locs : List Loc} (h : Iw G A s ws H locs) : va_K G.1 gC (gT G) s := h.1.1
theorem Iw.KE {G : gG} {A : Nat → Prop} {s : State} {ws : va_W} {H : Heap} {locs : List Loc} (h : Iw G A s ws H locs) : va_K G.1 gC (gT G) s ∧ gE G A s := h.1
theorem Iw.E {G : gG} {A : Nat → Prop} {s : State} {ws : va_W} {H : Heap} {locs : List Loc} (h : Iw G A s ws H locs) : gE G A s := h.1.2
theorem Iw.P {G : gG} {A : Nat → Prop} {s : State} {ws : va_W} {H : Heap} {locs : List Loc} (h : Iw G A s ws H locs) : va_P G.1 gC ws H := h.2.1
theorem Iw.D {G : gG} {A : Nat → Prop} {s : State} {ws : va_W} {H : Heap} {locs : List Loc} (h : Iw G A s ws H locs) : va_D A ws := h.2.2.1
theorem Iw.S {G : gG} {A : Nat → Prop} {s : State} {ws : va_W} {H : Heap} {locs : List Loc} (h : Iw G A s ws H locs) : va_S A s.heap H locs := h.2.2.2.1
theorem Iw.A {G : gG} {A : Nat → Prop} {s : State} {ws : va_W} {H : Heap} {locs : List Loc} (h : Iw G A s ws H locs) : ∀ q : Nat, s.heap.size ≤ q → A q := h.2.2.2.2
theorem Iw.free {G : gG} {A : Nat → Prop} {s : State} {ws : va_W} {H : Heap} {locs : List Loc} (h : Iw G A s ws H locs) : ∀ q, va_A ws H.size q → A q := by
  intro q hq
  rcases hq with ⟨k, e, hk⟩ | hq
  · exact h.D.2 k _ hk
  · exact h.A q (Nat.le_trans h.S.1 hq)
def gPc (G : gG) (av : List Value) (ws : va_W) (sz : Nat) : Array Value → State → Prop := va_Pc av (fun U => U.heap.size = sz ∧ va_P G.1 gC ws U.heap ∧ va_K G.1 gC (gT G) U ∧ va_D (fun _ => True) ws ∧ gE G (va_A ws sz) U)
def gB (G : gG) (A : Nat → Prop) (ws : va_W) (t : State) : Prop := va_P G.1 gC ws t.heap ∧ va_K G.1 gC (gT G) t ∧ va_D A ws
theorem gPc.blind (G : gG) (av : List Value) (ws : va_W) (sz : Nat) : FrameBlind (gPc G av ws sz) := fun a U g mk q => by
  obtain ⟨q0, q1, qP, qK, qD, qE⟩ := q
  exact ⟨q0, q1, qP, va_K.moved (u := U) (U := U.calling g mk a) (Vm.Alike.refl U.vm) qK, qD, qE⟩
theorem Iw.gE {G : gG} {A : Nat → Prop} {s : State} {ws : va_W} {H : Heap} {locs : List Loc} (h : Iw G A s ws H locs) {U : State} (hU : U.heap = H) (hW : s.WarmedH U.vm) {B : Nat → Prop} (hB : ∀ q, B q → A q) : gE G B U := by
  obtain ⟨e1, e2, e3, e4, e5, e6⟩ := h.E
  refine ⟨State.WarmedH.trans e1 hW, e2, e3, fun q hq => ?_, fun q hq => e5 q (hB q hq), ?_⟩
  · rw [hU, h.S.2.1 q (Nat.lt_of_lt_of_le hq e6) (fun z => absurd (e5 q z) (Nat.not_le.mpr hq))]; exact e4 q hq
  · rw [hU]; exact Nat.le_trans e6 h.S.1
theorem Iw.pre {G : gG} {A : Nat → Prop} {s : State} {ws : va_W} {H : Heap} {locs : List Loc} (h : Iw G A s ws H locs) (av : List Value) : ∀ U : State, U.heap = H → s.WarmedH U.vm → gPc G av ws H.size av.toArray U := fun U hU hW => ⟨rfl, by rw [hU], by rw [hU]; exact h.P, va_K.moved hW.alike h.K, h.D.weaken (fun _ _ _ _ => trivial), h.gE hU hW h.free⟩
/-- contracts over a world: an int, a long, nothing, a reference -/
def gMi {S : Type} (l : Launch) (y : MethodName) (cc : ByteArray) (L : Nat) (ret : Option FieldType) (rm : Room) (G : gG) (av : List Value) (ws : va_W) (w' : S → va_W) (post : Int32 → S → Prop) : Prop := ∀ sz, Met l y (ws_ y cc L ret) rm (gPc G av ws sz) (va_Qi post (fun u t => gB G (va_A ws sz) (w' u) t) (va_A ws sz)) rm.cells rm.slots (va_A ws sz)
def gMl {S : Type} (l : Launch) (y : MethodName) (cc : ByteArray) (L : Nat) (ret : Option FieldType) (rm : Room) (G : gG) (av : List Value) (ws : va_W) (w' : S → va_W) (post : Int64 → S → Prop) : Prop := ∀ sz, Met l y (ws_ y cc L ret) rm (gPc G av ws sz) (va_Ql post (fun u t => gB G (va_A ws sz) (w' u) t) (va_A ws sz)) rm.cells rm.slots (va_A ws sz)
def gMv {S : Type} (l : Launch) (y : MethodName) (cc : ByteArray) (L : Nat) (ret : Option FieldType) (rm : Room) (G : gG) (av : List Value) (ws : va_W) (w' : S → va_W) (post : S → Prop) : Prop := ∀ sz, Met l y (ws_ y cc L ret) rm (gPc G av ws sz) (va_Qv post (fun u t => gB G (va_A ws sz) (w' u) t) (va_A ws sz)) rm.cells rm.slots (va_A ws sz)
def gMq {S : Type} (l : Launch) (y : MethodName) (cc : ByteArray) (L : Nat) (ret : Option FieldType) (rm : Room) (G : gG) (av : List Value) (ws : va_W) (w' : S → va_W) (post : Option Nat → S → Prop) : Prop := ∀ sz, Met l y (ws_ y cc L ret) rm (gPc G av ws sz) (va_Qq post (fun u t => gB G (va_A ws sz) (w' u) t) (va_A ws sz)) rm.cells rm.slots (va_A ws sz)
/-- what is fixed in a method's walk -/
def gF (p : Program) (m : MethodId) (meth : Method) (c : Code) (cc : ByteArray) (L : Nat) (ret : Option FieldType) (s : State) (args : Array Value) (own name : String) : Prop := CallFix p m c cc L s args lw_all own ∧ meth.sig.returnType = ret ∧ meth.locks = false ∧ meth.name = name
theorem gF.x {p : Program} {m : MethodId} {meth : Method} {c : Code} {cc : ByteArray} {L : Nat} {ret : Option FieldType} {s : State} {args : Array Value} {own name : String} (h : gF p m meth c cc L ret s args own name) : p.tables.exec = Jvm.exec := h.1.1
theorem gF.b {p : Program} {m : MethodId} {meth : Method} {c : Code} {cc : ByteArray} {L : Nat} {ret : Option FieldType} {s : State} {args : Array Value} {own name : String} (h : gF p m meth c cc L ret s args own name) : c.code = cc := h.1.2.1
theorem gF.o {p : Program} {m : MethodId} {meth : Method} {c : Code} {cc : ByteArray} {L : Nat} {ret : Option FieldType} {s : State} {args : Array Value} {own name : String} (h : gF p m meth c cc L ret s args own name) : s.vm.findClass own = some m.cls := h.1.2.2.2.1
theorem gF.t {p : Program} {m : MethodId} {meth : Method} {c : Code} {cc : ByteArray} {L : Nat} {ret : Option FieldType} {s : State} {args : Array Value} {own name : String} (h : gF p m meth c cc L ret s args own name) : ∀ w ∈ lw_all, w.before args s = true := h.1.2.2.2.2
section GK
variable {p : Program} {l : Launch} {e : Env} {R : Room} {s : State} {m : MethodId} {args : Array Value} {below : List Frame} {meth : Method} {c : Code} {H : Heap} {locs : List Loc} {cells slots : Nat} {Q : State → Prop}
variable {cc : ByteArray} {nL : Nat} {ret : Option FieldType} {own name : String} {G : gG} {A : Nat → Prop} {ws : va_W} {pc : Nat} {ls : Array Slot} {rest st0 : List Value}
theorem g_enter {y : MethodName} {L : Nat} {rm : Room} {av : List Value} {Qc : Array Value → State → Outcome → State → Prop} {sz : Nat} (hy : plainName y.cls = true) (hlen : (lg_sl av).length ≤ L)
    (body : ∀ (p : Program) (e : Env) (s : State) (m : MethodId) (below : List Frame) (meth : Method) (c : Code) (ls : Array Slot), s.heap.size = sz → gF p m meth c cc L ret s av.toArray y.cls y.name → Iw G (va_A ws sz) s ws s.heap [] → lv_has ls L (lv_args 0 av) → W p l e rm s m av.toArray below meth c s.heap [] 0 0 (MQ below Qc av.toArray s rm.cells rm.slots (va_A ws sz)) (F0 m 0 ls [])) :
    Met l y (ws_ y cc L ret) rm (gPc G av ws sz) Qc rm.cells rm.slots (va_A ws sz) := by
  refine Met.ofW (cc := cc) (maxL := L) (ret := ret) hy rfl ?_
  intro p e s m args below meth c s₁ B hml hv
  obtain ⟨rfl, hsz, hP, hK, hD0, hE⟩ := hv
  have hts := atoms_spec (ws := ws_ y cc L ret) B.pre
  have hts : ∀ w ∈ lw_all, w.before _ s = true := fun w h => hts w (List.mem_cons_of_mem _ h)
  have hown : s.vm.findClass y.cls = some m.cls := findClass_of_methodNamed B.named
  have hin := (name_of_methodNamed B.named B.method).1
  rw [lg_entry_eq]
  exact body p e s m below meth c _ hsz ⟨⟨B.exec, B.bytes, hml, hown, hts⟩, B.returns, B.notSynchronized, hin⟩ ⟨⟨hK, hE⟩, hP, hD0.self, va_S.rf, fun q h => Or.inr (by rw [← hsz]; exact h)⟩ (lv_entry av hlen)
theorem gMi_of {S : Type} {y : MethodName} {L : Nat} {rm : Room} {av : List Value} {w' : S → va_W} {post : Int32 → S → Prop} (hy : plainName y.cls = true) (hlen : (lg_sl av).length ≤ L)
    (body : ∀ (p : Program) (e : Env) (s : State) (m : MethodId) (below : List Frame) (meth : Method) (c : Code) (ls : Array Slot) (A : Nat → Prop), gF p m meth c cc L ret s av.toArray y.cls y.name → Iw G A s ws s.heap [] → lv_has ls L (lv_args 0 av) → W p l e rm s m av.toArray below meth c s.heap [] 0 0 (MQ below (va_Qi post (fun u t => gB G A (w' u) t) A) av.toArray s rm.cells rm.slots A) (F0 m 0 ls [])) : gMi l y cc L ret rm G av ws w' post :=
  fun sz => g_enter hy hlen (fun p e s m below meth c ls _ h1 h2 h3 => body p e s m below meth c ls (va_A ws sz) h1 h2 h3)
theorem gMl_of {S : Type} {y : MethodName} {L : Nat} {rm : Room} {av : List Value} {w' : S → va_W} {post : Int64 → S → Prop} (hy : plainName y.cls = true) (hlen : (lg_sl av).length ≤ L)
    (body : ∀ (p : Program) (e : Env) (s : State) (m : MethodId) (below : List Frame) (meth : Method) (c : Code) (ls : Array Slot) (A : Nat → Prop), gF p m meth c cc L ret s av.toArray y.cls y.name → Iw G A s ws s.heap [] → lv_has ls L (lv_args 0 av) → W p l e rm s m av.toArray below meth c s.heap [] 0 0 (MQ below (va_Ql post (fun u t => gB G A (w' u) t) A) av.toArray s rm.cells rm.slots A) (F0 m 0 ls [])) : gMl l y cc L ret rm G av ws w' post :=
  fun sz => g_enter hy hlen (fun p e s m below meth c ls _ h1 h2 h3 => body p e s m below meth c ls (va_A ws sz) h1 h2 h3)
theorem gMv_of {S : Type} {y : MethodName} {L : Nat} {rm : Room} {av : List Value} {w' : S → va_W} {post : S → Prop} (hy : plainName y.cls = true) (hlen : (lg_sl av).length ≤ L)
    (body : ∀ (p : Program) (e : Env) (s : State) (m : MethodId) (below : List Frame) (meth : Method) (c : Code) (ls : Array Slot) (A : Nat → Prop), gF p m meth c cc L ret s av.toArray y.cls y.name → Iw G A s ws s.heap [] → lv_has ls L (lv_args 0 av) → W p l e rm s m av.toArray below meth c s.heap [] 0 0 (MQ below (va_Qv post (fun u t => gB G A (w' u) t) A) av.toArray s rm.cells rm.slots A) (F0 m 0 ls [])) : gMv l y cc L ret rm G av ws w' post :=
  fun sz => g_enter hy hlen (fun p e s m below meth c ls _ h1 h2 h3 => body p e s m below meth c ls (va_A ws sz) h1 h2 h3)
theorem gMq_of {S : Type} {y : MethodName} {L : Nat} {rm : Room} {av : List Value} {w' : S → va_W} {post : Option Nat → S → Prop} (hy : plainName y.cls = true) (hlen : (lg_sl av).length ≤ L)
    (body : ∀ (p : Program) (e : Env) (s : State) (m : MethodId) (below : List Frame) (meth : Method) (c : Code) (ls : Array Slot) (A : Nat → Prop), gF p m meth c cc L ret s av.toArray y.cls y.name → Iw G A s ws s.heap [] → lv_has ls L (lv_args 0 av) → W p l e rm s m av.toArray below meth c s.heap [] 0 0 (MQ below (va_Qq post (fun u t => gB G A (w' u) t) A) av.toArray s rm.cells rm.slots A) (F0 m 0 ls [])) : gMq l y cc L ret rm G av ws w' post :=
  fun sz => g_enter hy hlen (fun p e s m below meth c ls _ h1 h2 h3 => body p e s m below meth c ls (va_A ws sz) h1 h2 h3)
theorem Iw.end {w : va_W} (I : Iw G A s w H locs) {t : State} (ht : t.heap = H) (hW : s.WarmedH t.vm) : gB G A w t := ⟨by rw [ht]; exact I.P, va_K.moved hW.alike I.K, I.D⟩
/-- returns -/
theorem g_iret {S : Type} {w' : S → va_W} {post : Int32 → S → Prop} {v : Int32} {u : S} {k n : Nat} (F : gF p m meth c cc nL (some .int) s args own name) (I : Iw G A s (w' u) H locs) (hp : post v u) (hdg : decode cc pc = .ok (.ireturn, 1)) (h1 : cells ≤ k) (h2 : slots ≤ n) : W p l e R s m args below meth c H locs cells slots (MQ below (va_Qi post (fun u t => gB G A (w' u) t) A) args s k n A) (F0 m pc ls [.int v]) :=
  W.widen h1 h2 (W.iret F.x F.b F.2.1 (fun t ht hW => ⟨⟨v, u, rfl, hp, I.end ht hW⟩, I.S.F ht⟩) I.S.2.2 hdg F.2.2.1)
theorem g_lret {S : Type} {w' : S → va_W} {post : Int64 → S → Prop} {v : Int64} {u : S} {k n : Nat} (F : gF p m meth c cc nL (some .long) s args own name) (I : Iw G A s (w' u) H locs) (hp : post v u) (hdg : decode cc pc = .ok (.lreturn, 1)) (h1 : cells ≤ k) (h2 : slots ≤ n) : W p l e R s m args below meth c H locs cells slots (MQ below (va_Ql post (fun u t => gB G A (w' u) t) A) args s k n A) (F0 m pc ls [.long v]) :=
  W.widen h1 h2 (W.lret F.x F.b F.2.1 (fun t ht hW => ⟨⟨v, u, rfl, hp, I.end ht hW⟩, I.S.F ht⟩) I.S.2.2 hdg F.2.2.1)
theorem g_vret {S : Type} {w' : S → va_W} {post : S → Prop} {u : S} {k n : Nat} (F : gF p m meth c cc nL none s args own name) (I : Iw G A s (w' u) H locs) (hp : post u) (hdg : decode cc pc = .ok (.return_, 1)) (h1 : cells ≤ k) (h2 : slots ≤ n) : W p l e R s m args below meth c H locs cells slots (MQ below (va_Qv post (fun u t => gB G A (w' u) t) A) args s k n A) (F0 m pc ls []) :=
  W.widen h1 h2 (W.vret F.x F.b F.2.1 (fun t ht hW => ⟨⟨u, rfl, hp, I.end ht hW⟩, I.S.F ht⟩) I.S.2.2 hdg F.2.2.1)
def bI (b : Bool) : Int32 := if b then 1 else 0
theorem bI_t : bI true = 1 := rfl
theorem bI_f : bI false = 0 := rfl
theorem bI_nar (b : Bool) : narrow .boolean (.int (bI b)) = .int (bI b) := by cases b <;> rfl
theorem g_zret {S : Type} {w' : S → va_W} {post : Int32 → S → Prop} {v : Int32} {u : S} {k n : Nat} (F : gF p m meth c cc nL (some .boolean) s args own name) (I : Iw G A s (w' u) H locs) (hv : v = 0 ∨ v = 1) (hp : post v u) (hdg : decode cc pc = .ok (.ireturn, 1)) (h1 : cells ≤ k) (h2 : slots ≤ n) : W p l e R s m args below meth c H locs cells slots (MQ below (va_Qi post (fun u t => gB G A (w' u) t) A) args s k n A) (F0 m pc ls [.int v]) :=
  W.widen h1 h2 (W.zret F.x F.b F.2.1 (by rcases hv with rfl | rfl <;> rfl) (fun t ht hW => ⟨⟨v, u, rfl, hp, I.end ht hW⟩, I.S.F ht⟩) I.S.2.2 hdg F.2.2.1)
/-- calls: the callee has the caller's whole world -/
theorem g_runV {y : MethodName} {bytes : ByteArray} {maxL n index ci : Nat} {yret : Option FieldType} {rm : Room} {Qc : Array Value → State → Outcome → State → Prop} {b : Addr} {As : List Value} {T : u_T} {N q0 : Nat} {fs : List Value} {C : String} {g : JFrame} {free : Nat → Prop}
    (F : gF p m meth c cc nL ret s args own name) (I : Iw G A s ws H locs) (hM : Met l y (ws_ y bytes maxL yret) rm (gPc G (.ref b :: As) ws H.size) Qc rm.cells rm.slots free)
    (h1 : Cond.methodLink own index y ∈ lw_all) (h2 : Cond.instanceMethod y ∈ lw_all) (h3 : Cond.selects C y y ∈ lw_all) (h4 : Cond.initialized C ∈ lw_all) (h5 : Cond.code y bytes maxL yret ∈ lw_all)
    (hd : y.cls = C ∧ y.cls ≠ "java/lang/invoke/MethodHandle" ∧ y.cls ≠ "java/lang/invoke/VarHandle" ∧ (parseMethodDescriptor y.desc).map (fun d => d.parameters.length) = some n) (hR : rm.frames + 1 ≤ R.frames ∧ 8 + (maxL + 11) + rm.locals ≤ R.locals)
    (hc : gC[ci]? = some (C, T, N)) (he : ws[q0]? = some (b, .inr (ci, fs))) (hg : g.method = m) (hn : As.length = n) (hsize : g.locals.size = nL) (hstack : g.stack = As.reverse ++ .ref b :: rest) (hW : 2 * g.monitorRoom + (rest.map fun v => v.category).sum ≤ 8) (hdg : decode cc g.pc = .ok (.invokevirtual index, 3)) (hf : cells + rm.cells ≤ R.cells ∧ slots + rm.slots ≤ R.slots) :
    va_Run p l e R s m args below meth c H locs cells slots rm.cells rm.slots g rest (Qc (Value.ref b :: As).toArray) free :=
  va_runV F.1 hM (cwV n F.t (lw_V h1 h2 h3 h4 h5) rfl rfl rfl hd hR) ⟨gPc.blind _ _ _ _, va_recv I.K I.P hc he, I.pre _⟩ hg hn hsize hstack hW hdg hf
theorem g_runS {y : MethodName} {bytes : ByteArray} {maxL n index : Nat} {yret : Option FieldType} {rm : Room} {Qc : Array Value → State → Outcome → State → Prop} {As : List Value} {g : JFrame} {free : Nat → Prop}
    (F : gF p m meth c cc nL ret s args own name) (I : Iw G A s ws H locs) (hM : Met l y (ws_ y bytes maxL yret) rm (gPc G As ws H.size) Qc rm.cells rm.slots free)
    (h1 : Cond.methodLink own index y ∈ lw_all) (h2 : Cond.static y ∈ lw_all) (h3 : Cond.initialized y.cls ∈ lw_all) (h4 : Cond.code y bytes maxL yret ∈ lw_all)
    (hd : y.cls ≠ "java/lang/invoke/MethodHandle" ∧ y.cls ≠ "java/lang/invoke/VarHandle" ∧ (parseMethodDescriptor y.desc).map (fun d => d.parameters.length) = some n) (hR : rm.frames + 1 ≤ R.frames ∧ 8 + (maxL + 11) + rm.locals ≤ R.locals)
    (hg : g.method = m) (hn : As.length = n) (hsize : g.locals.size = nL) (hstack : g.stack = As.reverse ++ rest) (hW : 2 * g.monitorRoom + (rest.map fun v => v.category).sum ≤ 8) (hdg : decode cc g.pc = .ok (.invokestatic index, 3)) (hf : cells + rm.cells ≤ R.cells ∧ slots + rm.slots ≤ R.slots) :
    va_Run p l e R s m args below meth c H locs cells slots rm.cells rm.slots g rest (Qc As.toArray) free :=
  va_runS F.1 hM (va_cwS n F.t (lw_S h1 h2 h3 h4) rfl rfl rfl hd hR) ⟨gPc.blind _ _ _ _, I.pre _⟩ hg hn hsize hstack hW hdg hf
theorem g_runI {y : MethodName} {bytes : ByteArray} {maxL n index : Nat} {rm : Room} {Qc : Array Value → State → Outcome → State → Prop} {b : Addr} {As : List Value} {g : JFrame} {free : Nat → Prop}
    (F : gF p m meth c cc nL ret s args own name) (I : Iw G A s ws H locs) (hM : Met l y (ws_ y bytes maxL none) rm (gPc G (.ref b :: As) ws H.size) Qc rm.cells rm.slots free)
    (h1 : Cond.methodLink own index y ∈ lw_all) (h2 : Cond.instanceMethod y ∈ lw_all) (h3 : Cond.initialized y.cls ∈ lw_all) (h4 : Cond.code y bytes maxL none ∈ lw_all) (hy1 : y.name = "<init>")
    (hd : y.cls ≠ "java/lang/invoke/MethodHandle" ∧ y.cls ≠ "java/lang/invoke/VarHandle" ∧ (parseMethodDescriptor y.desc).map (fun d => d.parameters.length) = some n) (hR : rm.frames + 1 ≤ R.frames ∧ 8 + (maxL + 11) + rm.locals ≤ R.locals)
    (hg : g.method = m) (hn : As.length = n) (hsize : g.locals.size = nL) (hstack : g.stack = As.reverse ++ .ref b :: rest) (hW : 2 * g.monitorRoom + (rest.map fun v => v.category).sum ≤ 8) (hdg : decode cc g.pc = .ok (.invokespecial index, 3)) (hf : cells + rm.cells ≤ R.cells ∧ slots + rm.slots ≤ R.slots) :
    va_Run p l e R s m args below meth c H locs cells slots rm.cells rm.slots g rest (Qc (Value.ref b :: As).toArray) free :=
  va_runI F.1 hM (cwI n F.t (lw_meth h4) rfl rfl rfl (F.t _ h3) (F.t _ h1) (F.t _ h2) hy1 hd hR) ⟨gPc.blind _ _ _ _, I.pre _⟩ hg hn hsize hstack hW hdg hf
theorem Iw.after {w1 : va_W} {H1 : Heap} {locs1 : List Loc} {t : State} (I : Iw G A s ws H locs) (ht : t.heap = H1) (hvm : s.vm.Alike t.vm) (hB : gB G (va_A ws H.size) w1 t) (hS : va_S A s.heap H1 locs1) : Iw G A s w1 H1 locs1 :=
  ⟨I.KE, by rw [← ht]; exact hB.1, hB.2.2.weaken (fun _ q _ h => I.free q.1 h), hS, I.A⟩
theorem g_calli {S : Type} {w' : S → va_W} {post : Int32 → S → Prop} {a : Array Value} {mc ms : Nat} (I : Iw G A s ws H locs) (hr : va_Run p l e R s m args below meth c H locs cells slots mc ms (F0 m pc ls st0) rest (va_Qi post (fun u t => gB G (va_A ws H.size) (w' u) t) (va_A ws H.size) a) (va_A ws H.size))
    (kk : ∀ (r : Int32) (u : S) (H1 : Heap) (locs1 : List Loc), post r u → Iw G A s (w' u) H1 locs1 → W p l e R s m args below meth c H1 locs1 (cells + mc) (slots + ms) Q (F0 m (pc + 3) ls (.int r :: rest))) : W p l e R s m args below meth c H locs cells slots Q (F0 m pc ls st0) :=
  va_calli hr I.S (fun q _ h => I.free q h) I.free (fun r u t H1 locs1 ht hvm hp hB _ _ hS => kk r u H1 locs1 hp (I.after ht hvm hB hS))
theorem g_calll {S : Type} {w' : S → va_W} {post : Int64 → S → Prop} {a : Array Value} {mc ms : Nat} (I : Iw G A s ws H locs) (hr : va_Run p l e R s m args below meth c H locs cells slots mc ms (F0 m pc ls st0) rest (va_Ql post (fun u t => gB G (va_A ws H.size) (w' u) t) (va_A ws H.size) a) (va_A ws H.size))
    (kk : ∀ (r : Int64) (u : S) (H1 : Heap) (locs1 : List Loc), post r u → Iw G A s (w' u) H1 locs1 → W p l e R s m args below meth c H1 locs1 (cells + mc) (slots + ms) Q (F0 m (pc + 3) ls (.long r :: rest))) : W p l e R s m args below meth c H locs cells slots Q (F0 m pc ls st0) :=
  va_calll hr I.S (fun q _ h => I.free q h) I.free (fun r u t H1 locs1 ht hvm hp hB _ _ hS => kk r u H1 locs1 hp (I.after ht hvm hB hS))
theorem g_callv {S : Type} {w' : S → va_W} {post : S → Prop} {a : Array Value} {mc ms : Nat} (I : Iw G A s ws H locs) (hr : va_Run p l e R s m args below meth c H locs cells slots mc ms (F0 m pc ls st0) rest (va_Qv post (fun u t => gB G (va_A ws H.size) (w' u) t) (va_A ws H.size) a) (va_A ws H.size))
    (kk : ∀ (u : S) (H1 : Heap) (locs1 : List Loc), post u → Iw G A s (w' u) H1 locs1 → W p l e R s m args below meth c H1 locs1 (cells + mc) (slots + ms) Q (F0 m (pc + 3) ls rest)) : W p l e R s m args below meth c H locs cells slots Q (F0 m pc ls st0) :=
  va_callv hr I.S (fun q _ h => I.free q h) I.free (fun u t H1 locs1 ht hvm hp hB _ _ hS => kk u H1 locs1 hp (I.after ht hvm hB hS))
/-- loops and joins -/
theorem W_ind {α : Type} (tgt : Nat) (st : α → List Value) (μ : α → Nat) (J : α → Heap → List Loc → Array Slot → Prop)
    (step : ∀ (a : α) (H : Heap) (locs : List Loc) (ls : Array Slot), J a H locs ls → (∀ (b : α) (H' : Heap) (locs' : List Loc) (ls' : Array Slot), μ b < μ a → J b H' locs' ls' → W p l e R s m args below meth c H' locs' cells slots Q (F0 m tgt ls' (st b))) → W p l e R s m args below meth c H locs cells slots Q (F0 m tgt ls (st a)))
    (a : α) (hJ : J a H locs ls) : W p l e R s m args below meth c H locs cells slots Q (F0 m tgt ls (st a)) := by
  have key : ∀ (n : Nat) (a : α) (H : Heap) (locs : List Loc) (ls : Array Slot), μ a < n → J a H locs ls → W p l e R s m args below meth c H locs cells slots Q (F0 m tgt ls (st a)) := by
    intro n
    induction n with
    | zero => intro a H locs ls h; exact absurd h (Nat.not_lt_zero _)
    | succ n ih => intro a H locs ls h hJ; exact step a H locs ls hJ (fun b H' locs' ls' hb hJ' => ih b H' locs' ls' (by omega) hJ')
  exact key (μ a + 1) a H locs ls (Nat.lt_succ_self _) hJ
theorem W_cut {α : Type} {g : JFrame} {cells0 slots0 : Nat} {H0 : Heap} {locs0 : List Loc} (tgt : Nat) (st : α → List Value) (J : α → Heap → List Loc → Array Slot → Prop)
    (k : (∀ (a : α) (H : Heap) (locs : List Loc) (ls : Array Slot), J a H locs ls → W p l e R s m args below meth c H locs cells slots Q (F0 m tgt ls (st a))) → W p l e R s m args below meth c H0 locs0 cells0 slots0 Q g)
    (hj : ∀ (a : α) (H : Heap) (locs : List Loc) (ls : Array Slot), J a H locs ls → W p l e R s m args below meth c H locs cells slots Q (F0 m tgt ls (st a))) : W p l e R s m args below meth c H0 locs0 cells0 slots0 Q g := k hj
/-- an int by its value -/
theorem W.val {x y : Int32} (h : x = y) (k : W p l e R s m args below meth c H locs cells slots Q (F0 m pc ls (.int y :: rest))) : W p l e R s m args below meth c H locs cells slots Q (F0 m pc ls (.int x :: rest)) := h ▸ k
theorem W.val2 {x y : Int32} {v : Value} (h : x = y) (k : W p l e R s m args below meth c H locs cells slots Q (F0 m pc ls (v :: .int y :: rest))) : W p l e R s m args below meth c H locs cells slots Q (F0 m pc ls (v :: .int x :: rest)) := h ▸ k
/-- numbers -/
theorem n_iadd (F : gF p m meth c cc nL ret s args own name) {a b : Nat} (hdg : decode cc pc = .ok (.iadd, 1)) (k : W p l e R s m args below meth c H locs cells slots Q (F0 m (pc + 1) ls (.int (nI (a + b)) :: rest))) : W p l e R s m args below meth c H locs cells slots Q (F0 m pc ls (.int (nI b) :: .int (nI a) :: rest)) := lv_iadd F.x F.b hdg (W.val (nI_add a b) k)
theorem n_imul (F : gF p m meth c cc nL ret s args own name) {a b : Nat} (hdg : decode cc pc = .ok (.imul, 1)) (k : W p l e R s m args below meth c H locs cells slots Q (F0 m (pc + 1) ls (.int (nI (a * b)) :: rest))) : W p l e R s m args below meth c H locs cells slots Q (F0 m pc ls (.int (nI b) :: .int (nI a) :: rest)) := lv_imul F.x F.b hdg (W.val (pk_mul a b) k)
theorem n_isub (F : gF p m meth c cc nL ret s args own name) {a b : Nat} (hdg : decode cc pc = .ok (.isub, 1)) (h : b ≤ a) (k : W p l e R s m args below meth c H locs cells slots Q (F0 m (pc + 1) ls (.int (nI (a - b)) :: rest))) : W p l e R s m args below meth c H locs cells slots Q (F0 m pc ls (.int (nI b) :: .int (nI a) :: rest)) := lv_isub F.x F.b hdg (W.val (pk_sub h) k)
theorem n_idiv (F : gF p m meth c cc nL ret s args own name) {a b : Nat} (hdg : decode cc pc = .ok (.idiv, 1)) (ha : a < 2 ^ 31) (h0 : 0 < b) (hb : b < 2 ^ 31) (k : W p l e R s m args below meth c H locs cells slots Q (F0 m (pc + 1) ls (.int (nI (a / b)) :: rest))) : W p l e R s m args below meth c H locs cells slots Q (F0 m pc ls (.int (nI b) :: .int (nI a) :: rest)) := lv_idiv F.x F.b hdg (nI_ne0 h0 hb) (W.val (pk_div ha h0 hb) k)
theorem n_irem (F : gF p m meth c cc nL ret s args own name) {a b : Nat} (hdg : decode cc pc = .ok (.irem, 1)) (ha : a < 2 ^ 31) (h0 : 0 < b) (hb : b < 2 ^ 31) (k : W p l e R s m args below meth c H locs cells slots Q (F0 m (pc + 1) ls (.int (nI (a % b)) :: rest))) : W p l e R s m args below meth c H locs cells slots Q (F0 m pc ls (.int (nI b) :: .int (nI a) :: rest)) := lv_irem F.x F.b hdg (nI_ne0 h0 hb) (W.val (pk_rem ha h0 hb) k)
/-- branches on booleans that a callee answered -/
theorem z_eq (F : gF p m meth c cc nL ret s args own name) {b : Bool} {off : Int} {tgt : Nat} (hdg : decode cc pc = .ok (.ifCond .eq off, 3)) (ht : (pc : Int) + off = (tgt : Int)) (kt : b = false → W p l e R s m args below meth c H locs cells slots Q (F0 m tgt ls rest)) (kf : b = true → W p l e R s m args below meth c H locs cells slots Q (F0 m (pc + 3) ls rest)) : W p l e R s m args below meth c H locs cells slots Q (F0 m pc ls (.int (bI b) :: rest)) := lv_if_eq F.x F.b hdg ht (fun h => kt (by cases b with | false => rfl | true => exact absurd h (by decide))) (fun h => kf (by cases b with | true => rfl | false => exact absurd rfl h))
theorem z_ne (F : gF p m meth c cc nL ret s args own name) {b : Bool} {off : Int} {tgt : Nat} (hdg : decode cc pc = .ok (.ifCond .ne off, 3)) (ht : (pc : Int) + off = (tgt : Int)) (kt : b = true → W p l e R s m args below meth c H locs cells slots Q (F0 m tgt ls rest)) (kf : b = false → W p l e R s m args below meth c H locs cells slots Q (F0 m (pc + 3) ls rest)) : W p l e R s m args below meth c H locs cells slots Q (F0 m pc ls (.int (bI b) :: rest)) := lv_if_ne F.x F.b hdg ht (fun h => kt (by cases b with | true => rfl | false => exact absurd rfl h)) (fun h => kf (by cases b with | false => rfl | true => exact absurd h (by decide)))
end GK
