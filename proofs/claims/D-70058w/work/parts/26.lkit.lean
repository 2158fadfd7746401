/-! OWN KIT, 3: interfaces, references -/
set_option maxRecDepth 100000
theorem lw_F {own : String} {idx : Nat} {C : String} {x y : MethodName} {b : ByteArray} {L : Nat} {r : Option FieldType} (h1 : Cond.methodLink own idx x ∈ lw_all) (h2 : Cond.selects C x y ∈ lw_all) (h3 : Cond.instanceMethod y ∈ lw_all) (h4 : Cond.initialized y.cls ∈ lw_all) (h5 : Cond.code y b L r ∈ lw_all) : GoodIn lw_all (va_wsF own idx C x y (ws_ y b L r)) := by
  refine lw_app ?_ (lw_meth h5)
  intro w hw
  simp only [List.mem_cons, List.not_mem_nil, or_false] at hw
  rcases hw with e | e | e | e
  · rw [e]; exact h1
  · rw [e]; exact h2
  · rw [e]; exact h3
  · rw [e]; exact h4
section GK3
variable {p : Program} {l : Launch} {e : Env} {R : Room} {s : State} {m : MethodId} {args : Array Value} {below : List Frame} {meth : Method} {c : Code} {H : Heap} {locs : List Loc} {cells slots : Nat} {Q : State → Prop}
variable {cc : ByteArray} {nL : Nat} {ret : Option FieldType} {own name : String} {G : gG} {A : Nat → Prop} {ws : va_W} {pc : Nat} {ls : Array Slot} {rest st0 : List Value} {a : Nat}
/-- an interface's entry, by the claim's start -/
theorem Iw.fw (I : Iw G A s ws H locs) {C : String} {x y : MethodName} (hx : x.cls ≠ "java/lang/invoke/MethodHandle" ∧ x.cls ≠ "java/lang/invoke/VarHandle") (h1 : Cond.declares x ∈ lw_tbl) (h2 : Cond.interfaceMethod x.cls x.cls x.name x.desc ∈ lw_tbl) (h3 : Cond.publicMethod y ∈ lw_tbl) (h4 : Cond.unhidden C x.name x.desc ∈ lw_tbl) (h5 : Cond.castable C x.cls ∈ lw_tbl) : va_Fw C x y s :=
  va_Fw.moved hx I.E.1.alike (va_Fw.of (I.E.2.1 _ h1) (I.E.2.1 _ h2) (I.E.2.1 _ h3) (I.E.2.1 _ h4) (I.E.2.1 _ h5))
theorem Iw.cast (I : Iw G A s ws H locs) {C T : String} (h : Cond.castable C T ∈ lw_tbl) : va_Nw (.castable C T) s := va_Nw.warmC I.E.1 (va_Nw.of rfl (I.E.2.1 _ h))
theorem Iw.nestF (I : Iw G A s ws H locs) {x : String} {i : Nat} {b n d h : String} (hw : Cond.fieldLinkNest x i b n d h ∈ lw_tbl) : va_Nw (.fieldLinkNest x i b n d h) s := va_Nw.warmF I.E.1 (va_Nw.of rfl (I.E.2.1 _ hw))
theorem Iw.nestM (I : Iw G A s ws H locs) {x : String} {i : Nat} {y : MethodName} {h : String} (hw : Cond.methodLinkNest x i y h ∈ lw_tbl) : va_Nw (.methodLinkNest x i y h) s := va_Nw.warmM I.E.1 (va_Nw.of rfl (I.E.2.1 _ hw))
theorem Iw.ao (I : Iw G A s ws H locs) {C : String} (hw : Cond.arrayOver (.object C) ∈ lw_tbl) : va_AO C s := va_AO.moved I.E.1.alike (va_AO.of (I.E.2.1 _ hw))
theorem g_runF {x y : MethodName} {bytes : ByteArray} {maxL n index count ci : Nat} {yret : Option FieldType} {rm : Room} {Qc : Array Value → State → Outcome → State → Prop} {b : Addr} {As : List Value} {T : u_T} {N q0 : Nat} {fs : List Value} {C : String} {g : JFrame} {free : Nat → Prop}
    (F : gF p m meth c cc nL ret s args own name) (I : Iw G A s ws H locs) (hM : Met l y (ws_ y bytes maxL yret) rm (gPc G (.ref b :: As) ws H.size) Qc rm.cells rm.slots free)
    (h1 : Cond.methodLink own index x ∈ lw_all) (h2 : Cond.selects C x y ∈ lw_all) (h3 : Cond.instanceMethod y ∈ lw_all) (h4 : Cond.initialized y.cls ∈ lw_all) (h5 : Cond.code y bytes maxL yret ∈ lw_all) (hF : va_Fw C x y s)
    (hd : x.cls ≠ "java/lang/invoke/MethodHandle" ∧ x.cls ≠ "java/lang/invoke/VarHandle" ∧ (parseMethodDescriptor x.desc).map (fun d => d.parameters.length) = some n) (hR : rm.frames + 1 ≤ R.frames ∧ 8 + (maxL + 11) + rm.locals ≤ R.locals)
    (hc : gC[ci]? = some (C, T, N)) (he : ws[q0]? = some (b, .inr (ci, fs))) (hg : g.method = m) (hn : As.length = n) (hsize : g.locals.size = nL) (hstack : g.stack = As.reverse ++ .ref b :: rest) (hW : 2 * g.monitorRoom + (rest.map fun v => v.category).sum ≤ 8) (hdg : decode cc g.pc = .ok (.invokeinterface index count, 5)) (hf : cells + rm.cells ≤ R.cells ∧ slots + rm.slots ≤ R.slots) :
    va_Run5 p l e R s m args below meth c H locs cells slots rm.cells rm.slots g rest (Qc (Value.ref b :: As).toArray) free :=
  va_runF (I.K.1 ci _ hc).2 F.1 hM (va_cwF n F.t (lw_F h1 h2 h3 h4 h5) rfl rfl rfl hF hd hR) ⟨gPc.blind _ _ _ _, va_recv I.K I.P hc he, I.pre _⟩ hg hn hsize hstack hW hdg hf
theorem g_callFi {S : Type} {w' : S → va_W} {post : Int32 → S → Prop} {b : Array Value} {mc ms : Nat} (I : Iw G A s ws H locs) (hr : va_Run5 p l e R s m args below meth c H locs cells slots mc ms (F0 m pc ls st0) rest (va_Qi post (fun u t => gB G (va_A ws H.size) (w' u) t) (va_A ws H.size) b) (va_A ws H.size))
    (kk : ∀ (r : Int32) (u : S) (H1 : Heap) (locs1 : List Loc), post r u → Iw G A s (w' u) H1 locs1 → W p l e R s m args below meth c H1 locs1 (cells + mc) (slots + ms) Q (F0 m (pc + 5) ls (.int r :: rest))) : W p l e R s m args below meth c H locs cells slots Q (F0 m pc ls st0) :=
  va_callFi hr I.S (fun q _ h => I.free q h) I.free (fun r u t H1 locs1 ht hvm hp hB _ _ hS => kk r u H1 locs1 hp (I.after ht hvm hB hS))
theorem g_callFv {S : Type} {w' : S → va_W} {post : S → Prop} {b : Array Value} {mc ms : Nat} (I : Iw G A s ws H locs) (hr : va_Run5 p l e R s m args below meth c H locs cells slots mc ms (F0 m pc ls st0) rest (va_Qv post (fun u t => gB G (va_A ws H.size) (w' u) t) (va_A ws H.size) b) (va_A ws H.size))
    (kk : ∀ (u : S) (H1 : Heap) (locs1 : List Loc), post u → Iw G A s (w' u) H1 locs1 → W p l e R s m args below meth c H1 locs1 (cells + mc) (slots + ms) Q (F0 m (pc + 5) ls rest)) : W p l e R s m args below meth c H locs cells slots Q (F0 m pc ls st0) :=
  va_callFv hr I.S (fun q _ h => I.free q h) I.free (fun u t H1 locs1 ht hvm hp hB _ _ hS => kk u H1 locs1 hp (I.after ht hvm hB hS))
theorem g_callFq {S : Type} {w' : S → va_W} {post : Option Nat → S → Prop} {b : Array Value} {mc ms : Nat} (I : Iw G A s ws H locs) (hr : va_Run5 p l e R s m args below meth c H locs cells slots mc ms (F0 m pc ls st0) rest (va_Qq post (fun u t => gB G (va_A ws H.size) (w' u) t) (va_A ws H.size) b) (va_A ws H.size))
    (kk : ∀ (r : Option Nat) (u : S) (H1 : Heap) (locs1 : List Loc), post r u → Iw G A s (w' u) H1 locs1 → W p l e R s m args below meth c H1 locs1 (cells + mc) (slots + ms) Q (F0 m (pc + 5) ls (va_rf r :: rest))) : W p l e R s m args below meth c H locs cells slots Q (F0 m pc ls st0) :=
  va_callFq hr I.S (fun q _ h => I.free q h) I.free (fun r u t H1 locs1 ht hvm hp hB _ _ hS => kk r u H1 locs1 hp (I.after ht hvm hB hS))
theorem g_callq {S : Type} {w' : S → va_W} {post : Option Nat → S → Prop} {b : Array Value} {mc ms : Nat} (I : Iw G A s ws H locs) (hr : va_Run p l e R s m args below meth c H locs cells slots mc ms (F0 m pc ls st0) rest (va_Qq post (fun u t => gB G (va_A ws H.size) (w' u) t) (va_A ws H.size) b) (va_A ws H.size))
    (kk : ∀ (r : Option Nat) (u : S) (H1 : Heap) (locs1 : List Loc), post r u → Iw G A s (w' u) H1 locs1 → W p l e R s m args below meth c H1 locs1 (cells + mc) (slots + ms) Q (F0 m (pc + 3) ls (va_rf r :: rest))) : W p l e R s m args below meth c H locs cells slots Q (F0 m pc ls st0) :=
  va_callq hr I.S (fun q _ h => I.free q h) I.free (fun r u t H1 locs1 ht hvm hp hB _ _ hS => kk r u H1 locs1 hp (I.after ht hvm hB hS))
theorem g_aret {S : Type} {w' : S → va_W} {post : Option Nat → S → Prop} {v : Option Nat} {u : S} {k n : Nat} {rt : FieldType} (F : gF p m meth c cc nL (some rt) s args own name) (hrt : (∃ n, rt = .object n) ∨ ∃ t, rt = .array t) (I : Iw G A s (w' u) H locs) (hp : post v u) (hdg : decode cc pc = .ok (.areturn, 1)) (h1 : cells ≤ k) (h2 : slots ≤ n) : W p l e R s m args below meth c H locs cells slots (MQ below (va_Qq post (fun u t => gB G A (w' u) t) A) args s k n A) (F0 m pc ls [va_rf v]) :=
  W.widen h1 h2 (W.aret F.x F.b F.2.1 hrt (va_rf_or v) (fun t ht hW => ⟨⟨v, u, rfl, hp, I.end ht hW⟩, I.S.F ht⟩) I.S.2.2 hdg F.2.2.1)
/-- references in arrays, by place -/
theorem g_ald (F : gF p m meth c cc nL ret s args own name) (I : Iw G A s ws H locs) (q0 t0 : Nat) {C : String} {j n : Nat} {f : Nat → Option Nat} {v : Value} (ht : (gT G)[t0]? = some (G.2.1 t0, .object C)) (he : ws[q0]? = some (a, .inl (G.2.1 t0, n, .inr (.inr (.inr (.inr f)))))) (hj : j < n) (hn : n < 2 ^ 31) (hv : va_rf (f j) = v) (hdg : decode cc pc = .ok (.aaload, 1))
    (kk : W p l e R s m args below meth c H locs cells slots Q (F0 m (pc + 1) ls (v :: rest))) : W p l e R s m args below meth c H locs cells slots Q (F0 m pc ls (.int (nI j) :: .ref a :: rest)) :=
  va_aldq F.x F.b I.K I.P q0 t0 he ht (vp_in_nI hj hn) hdg (by rw [nI_clamp (Nat.lt_trans hj hn), hv]; exact kk)
end GK3
