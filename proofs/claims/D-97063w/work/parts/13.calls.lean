/-! CONTRACTS over the world, and calls -/
set_option maxRecDepth 100000
def Pc_ (G : GG) (av : List Value) (th : Th) (rh : Rh) (ph : Ph) (ka : Ka) : Array Value → State → Prop := fun v U => v = av.toArray ∧ Kn G U ∧ Mem G th rh ph ka U.heap
/-- the end of a method that makes no cell and moves no reference: an int, a long, nothing -/
def Qi (G : GG) (th : Th) (rh : Rh) (ph : Ph) (post : Int32 → Ka → Prop) : Array Value → State → Outcome → State → Prop := fun _ _ oc t => ∃ (r : Int32) (ka' : Ka), oc = .returned (some (.int r)) ∧ post r ka' ∧ Mem G th rh ph ka' t.heap
def Ql (G : GG) (th : Th) (rh : Rh) (ph : Ph) (post : Int64 → Ka → Prop) : Array Value → State → Outcome → State → Prop := fun _ _ oc t => ∃ (r : Int64) (ka' : Ka), oc = .returned (some (.long r)) ∧ post r ka' ∧ Mem G th rh ph ka' t.heap
def Qv (G : GG) (th : Th) (rh : Rh) (ph : Ph) (post : Ka → Prop) : Array Value → State → Outcome → State → Prop := fun _ _ oc t => ∃ (ka' : Ka), oc = .returned none ∧ post ka' ∧ Mem G th rh ph ka' t.heap
/-- any end: an int, a reference, nothing, with any world -/
def QGi (G : GG) (post : Int32 → Th → Rh → Ph → Ka → Prop) : Array Value → State → Outcome → State → Prop := fun _ _ oc t => ∃ (r : Int32) (th' : Th) (rh' : Rh) (ph' : Ph) (ka' : Ka), oc = .returned (some (.int r)) ∧ post r th' rh' ph' ka' ∧ Mem G th' rh' ph' ka' t.heap
def QGv (G : GG) (post : Th → Rh → Ph → Ka → Prop) : Array Value → State → Outcome → State → Prop := fun _ _ oc t => ∃ (th' : Th) (rh' : Rh) (ph' : Ph) (ka' : Ka), oc = .returned none ∧ post th' rh' ph' ka' ∧ Mem G th' rh' ph' ka' t.heap
def QGr (G : GG) (post : Option Nat → Th → Rh → Ph → Ka → Prop) : Array Value → State → Outcome → State → Prop := fun _ _ oc t => ∃ (r : Option Nat) (th' : Th) (rh' : Rh) (ph' : Ph) (ka' : Ka), oc = .returned (some (va_rf r)) ∧ post r th' rh' ph' ka' ∧ Mem G th' rh' ph' ka' t.heap
/-- the room of a method: d calls deep, cells, slots -/
def RM (d mc ms : Nat) : Room := { frames := d, cells := mc, slots := ms, locals := 64 * d }
theorem blind_Pc {G : GG} {av : List Value} {th : Th} {rh : Rh} {ph : Ph} {ka : Ka} : FrameBlind (Pc_ G av th rh ph ka) := fun a U g mk h => ⟨h.1, ⟨h.2.1.1, h.2.1.2⟩, h.2.2⟩
section RC
variable {p : Program} {l : Launch} {e : Env} {R : Room} {s : State} {m : MethodId} {args : Array Value} {below : List Frame} {meth : Method} {c : Code} {H : Heap} {locs : List Loc} {cells slots : Nat} {Q : State → Prop}
variable {cc : ByteArray} {nL pc : Nat} {own : String} {ls : Array Slot} {rest : List Value} {G : GG} {th : Th} {rh : Rh} {ph : Ph} {ka : Ka}
/-- a method's contract out of the walk of its body -/
theorem m_of {y : MethodName} {maxL : Nat} {ret : Option FieldType} {rm : Room} {av : List Value} {Qc : Array Value → State → Outcome → State → Prop} {mc ms : Nat} (hy : plainName y.cls = true) (hlen : (lg_sl av).length ≤ maxL)
    (body : ∀ (p : Program) (e : Env) (s : State) (m : MethodId) (below : List Frame) (meth : Method) (c : Code), Cx G p s m av.toArray meth c cc maxL y.cls → meth.sig.returnType = ret → meth.name = y.name → ∀ (ls : Array Slot), lv_has ls maxL (lv_args 0 av) → Md G th rh ph ka s.heap [] →
      W p l e rm s m av.toArray below meth c s.heap [] 0 0 (MQ below Qc av.toArray s mc ms (frG G)) (F0 m 0 ls [])) : Met l y (ws_ y cc maxL ret) rm (Pc_ G av th rh ph ka) Qc mc ms (frG G) := by
  refine Met.ofW (cc := cc) (maxL := maxL) (ret := ret) hy rfl ?_
  intro p e s m args below meth c s₁ B hml hv
  obtain ⟨rfl, hKn, hM⟩ := hv
  have hts := atoms_spec (ws := ws_ y cc maxL ret) B.pre
  have hts : ∀ w ∈ lw_all, w.before _ s = true := fun w h => hts w (List.mem_cons_of_mem _ h)
  have hl := lv_entry av (n := maxL) hlen
  rw [lg_entry_eq]
  exact body p e s m below meth c ⟨B.exec, B.bytes, hml, findClass_of_methodNamed B.named, hts, B.notSynchronized, hKn⟩ B.returns (name_of_methodNamed B.named B.method).1 _ hl ⟨hM, fun l h => by cases h⟩
theorem r_iret {post : Int32 → Ka → Prop} {v : Int32} (B : Cx G p s m args meth c cc nL own) (hr : meth.sig.returnType = some .int) (hM : Md G th rh ph ka H locs) (hdg : decode cc pc = .ok (.ireturn, 1)) (hp : post v ka) : W p l e R s m args below meth c H locs cells slots (MQ below (Qi G th rh ph post) args s cells slots (frG G)) (F0 m pc ls [.int v]) :=
  W.iret B.1 B.2.1 hr (fun t ht hW => ⟨v, ka, rfl, hp, by rw [ht]; exact hM.1⟩) hM.2 hdg (hlocks := B.2.2.2.2.2.1)
theorem r_zret {post : Int32 → Ka → Prop} {v : Int32} (B : Cx G p s m args meth c cc nL own) (hr : meth.sig.returnType = some .boolean) (hM : Md G th rh ph ka H locs) (hdg : decode cc pc = .ok (.ireturn, 1)) (hv : v = 0 ∨ v = 1) (hp : post v ka) : W p l e R s m args below meth c H locs cells slots (MQ below (Qi G th rh ph post) args s cells slots (frG G)) (F0 m pc ls [.int v]) :=
  W.zret B.1 B.2.1 hr (by rcases hv with rfl | rfl <;> rfl) (fun t ht hW => ⟨v, ka, rfl, hp, by rw [ht]; exact hM.1⟩) hM.2 hdg (hlocks := B.2.2.2.2.2.1)
theorem r_lret {post : Int64 → Ka → Prop} {v : Int64} (B : Cx G p s m args meth c cc nL own) (hr : meth.sig.returnType = some .long) (hM : Md G th rh ph ka H locs) (hdg : decode cc pc = .ok (.lreturn, 1)) (hp : post v ka) : W p l e R s m args below meth c H locs cells slots (MQ below (Ql G th rh ph post) args s cells slots (frG G)) (F0 m pc ls [.long v]) :=
  W.lret B.1 B.2.1 hr (fun t ht hW => ⟨v, ka, rfl, hp, by rw [ht]; exact hM.1⟩) hM.2 hdg (hlocks := B.2.2.2.2.2.1)
theorem r_vret {post : Ka → Prop} (B : Cx G p s m args meth c cc nL own) (hr : meth.sig.returnType = none) (hM : Md G th rh ph ka H locs) (hdg : decode cc pc = .ok (.return_, 1)) (hp : post ka) : W p l e R s m args below meth c H locs cells slots (MQ below (Qv G th rh ph post) args s cells slots (frG G)) (F0 m pc ls []) :=
  W.vret B.1 B.2.1 hr (fun t ht hW => ⟨ka, rfl, hp, by rw [ht]; exact hM.1⟩) hM.2 hdg (hlocks := B.2.2.2.2.2.1)
theorem r_iretG {post : Int32 → Th → Rh → Ph → Ka → Prop} {v : Int32} (B : Cx G p s m args meth c cc nL own) (hr : meth.sig.returnType = some .int) (hM : Md G th rh ph ka H locs) (hdg : decode cc pc = .ok (.ireturn, 1)) (hp : post v th rh ph ka) : W p l e R s m args below meth c H locs cells slots (MQ below (QGi G post) args s cells slots (frG G)) (F0 m pc ls [.int v]) :=
  W.iret B.1 B.2.1 hr (fun t ht hW => ⟨v, th, rh, ph, ka, rfl, hp, by rw [ht]; exact hM.1⟩) hM.2 hdg (hlocks := B.2.2.2.2.2.1)
theorem r_vretG {post : Th → Rh → Ph → Ka → Prop} (B : Cx G p s m args meth c cc nL own) (hr : meth.sig.returnType = none) (hM : Md G th rh ph ka H locs) (hdg : decode cc pc = .ok (.return_, 1)) (hp : post th rh ph ka) : W p l e R s m args below meth c H locs cells slots (MQ below (QGv G post) args s cells slots (frG G)) (F0 m pc ls []) :=
  W.vret B.1 B.2.1 hr (fun t ht hW => ⟨th, rh, ph, ka, rfl, hp, by rw [ht]; exact hM.1⟩) hM.2 hdg (hlocks := B.2.2.2.2.2.1)
theorem r_aretG {post : Option Nat → Th → Rh → Ph → Ka → Prop} {rt : FieldType} (v : Option Nat) {w : Value} (hw : w = va_rf v) (B : Cx G p s m args meth c cc nL own) (hr : meth.sig.returnType = some rt) (hrt : (∃ n, rt = .object n) ∨ ∃ t, rt = .array t) (hM : Md G th rh ph ka H locs) (hdg : decode cc pc = .ok (.areturn, 1)) (hp : post v th rh ph ka) : W p l e R s m args below meth c H locs cells slots (MQ below (QGr G post) args s cells slots (frG G)) (F0 m pc ls [w]) := by
  subst hw
  exact W.aret B.1 B.2.1 hr hrt (va_rf_or v) (fun t ht hW => ⟨v, th, rh, ph, ka, rfl, hp, by rw [ht]; exact hM.1⟩) hM.2 hdg (hlocks := B.2.2.2.2.2.1)
/-- a method's name and descriptor are plain -/
abbrev okM (y : MethodName) (n : Nat) : Prop := y.cls ≠ "java/lang/invoke/MethodHandle" ∧ y.cls ≠ "java/lang/invoke/VarHandle" ∧ (parseMethodDescriptor y.desc).map (fun d => d.parameters.length) = some n
/-- what the calls of a method ask of the tables: virtual on its own class, static, constructor -/
def CalV (y : MethodName) (b : ByteArray) (L : Nat) (r : Option FieldType) (n : Nat) : Prop := Cond.instanceMethod y ∈ lw_all ∧ Cond.selects y.cls y y ∈ lw_all ∧ Cond.initialized y.cls ∈ lw_all ∧ Cond.code y b L r ∈ lw_all ∧ okM y n
def CalS (y : MethodName) (b : ByteArray) (L : Nat) (r : Option FieldType) (n : Nat) : Prop := Cond.static y ∈ lw_all ∧ Cond.initialized y.cls ∈ lw_all ∧ Cond.code y b L r ∈ lw_all ∧ okM y n
def CalI (y : MethodName) (b : ByteArray) (L n : Nat) : Prop := Cond.instanceMethod y ∈ lw_all ∧ Cond.initialized y.cls ∈ lw_all ∧ Cond.code y b L none ∈ lw_all ∧ y.name = "<init>" ∧ okM y n
variable {y : MethodName} {bytes : ByteArray} {maxL mc ms n index d : Nat} {ret : Option FieldType} {Qc : Array Value → State → Outcome → State → Prop} {b : Addr} {As : List Value}
theorem Cx.fix (B : Cx G p s m args meth c cc nL own) : CallFix p m c cc nL s args lw_all own := ⟨B.1, B.2.1, B.2.2.1, B.2.2.2.1, B.2.2.2.2.1⟩
theorem Cx.kn (B : Cx G p s m args meth c cc nL own) : Kn G s := B.2.2.2.2.2.2
theorem Cx.ts (B : Cx G p s m args meth c cc nL own) : ∀ w ∈ lw_all, w.before args s = true := B.2.2.2.2.1
theorem Md.pre (hM : Md G th rh ph ka H locs) (B : Cx G p s m args meth c cc nL own) {av : List Value} : PreS s H (Pc_ G av th rh ph ka) av := ⟨blind_Pc, fun U hU hW => ⟨rfl, B.kn.warm hW, by rw [hU]; exact hM.1⟩⟩
theorem Md.recv (hM : Md G th rh ph ka H locs) (B : Cx G p s m args meth c cc nL own) {a pl ci : Nat} {r : vw_C} (ha : th a = some (pl, .inl ci)) (hc : gCl[ci]? = some r) : ∃ cell : Cell, H[a]? = some cell ∧ cell.vm.isStatics = false ∧ s.vm.findClass r.1 = some cell.cls := by
  obtain ⟨r', h1, cell, q1, q2, q3, q4⟩ := (hM.1.1 a pl _ ha).2.1
  cases h1.symm.trans hc
  exact ⟨cell, q1, by rw [q3]; rfl, by rw [q2]; exact (B.kn.K.1 ci _ hc).2.1⟩
/-- a call through an object of the method's own class (a private method too) -/
theorem r_V (B : Cx G p s m args meth c cc nL own) (hM : Md G th rh ph ka H locs) {pl ci : Nat} {r : vw_C} (hb : th b = some (pl, .inl ci)) (hc : gCl[ci]? = some r) (hrc : r.1 = y.cls) (hMet : Met l y (ws_ y bytes maxL ret) (RM d mc ms) (Pc_ G (.ref b :: As) th rh ph ka) Qc mc ms (frG G)) (cv : CalV y bytes maxL ret n) (q : Cond.methodLink own index y ∈ lw_all) (hn : As.length = n) (hl : ls.size = nL) (hW : (rest.map fun v => v.category).sum ≤ 8) (hdg : decode cc pc = .ok (.invokevirtual index, 3)) (hR : d + 1 ≤ R.frames ∧ 19 + maxL + 64 * d ≤ R.locals) (hf : cells + mc ≤ R.cells ∧ slots + ms ≤ R.slots) :
    va_Run p l e R s m args below meth c H locs cells slots mc ms (F0 m pc ls (As.reverse ++ .ref b :: rest)) rest (Qc (Value.ref b :: As).toArray) (frG G) := by
  obtain ⟨h1, h2, h3, h4, h5⟩ := cv
  refine va_runV (C := y.cls) (As := As) (rest := rest) B.fix hMet (cwV n B.ts (lw_V q h1 h2 h3 h4) rfl rfl rfl ⟨rfl, h5⟩ ⟨hR.1, by show 8 + (maxL + 11) + 64 * d ≤ _; omega⟩) ⟨(hM.pre B (av := .ref b :: As)).1, ?_, (hM.pre B (av := .ref b :: As)).2⟩ rfl hn hl rfl (lv_room hW) hdg hf
  rw [← hrc]
  exact hM.recv B hb hc
theorem r_S (B : Cx G p s m args meth c cc nL own) (hM : Md G th rh ph ka H locs) (hMet : Met l y (ws_ y bytes maxL ret) (RM d mc ms) (Pc_ G As th rh ph ka) Qc mc ms (frG G)) (cv : CalS y bytes maxL ret n) (q : Cond.methodLink own index y ∈ lw_all) (hn : As.length = n) (hl : ls.size = nL) (hW : (rest.map fun v => v.category).sum ≤ 8) (hdg : decode cc pc = .ok (.invokestatic index, 3)) (hR : d + 1 ≤ R.frames ∧ 19 + maxL + 64 * d ≤ R.locals) (hf : cells + mc ≤ R.cells ∧ slots + ms ≤ R.slots) :
    va_Run p l e R s m args below meth c H locs cells slots mc ms (F0 m pc ls (As.reverse ++ rest)) rest (Qc As.toArray) (frG G) := by
  obtain ⟨h2, h3, h4, h5⟩ := cv
  exact va_runS (As := As) (rest := rest) B.fix hMet (va_cwS n B.ts (lw_S q h2 h3 h4) rfl rfl rfl h5 ⟨hR.1, by show 8 + (maxL + 11) + 64 * d ≤ _; omega⟩) (hM.pre B) rfl hn hl rfl (lv_room hW) hdg hf
theorem r_I (B : Cx G p s m args meth c cc nL own) (hM : Md G th rh ph ka H locs) (hMet : Met l y (ws_ y bytes maxL none) (RM d mc ms) (Pc_ G (.ref b :: As) th rh ph ka) Qc mc ms (frG G)) (cv : CalI y bytes maxL n) (q : Cond.methodLink own index y ∈ lw_all) (hn : As.length = n) (hl : ls.size = nL) (hW : (rest.map fun v => v.category).sum ≤ 8) (hdg : decode cc pc = .ok (.invokespecial index, 3)) (hR : d + 1 ≤ R.frames ∧ 19 + maxL + 64 * d ≤ R.locals) (hf : cells + mc ≤ R.cells ∧ slots + ms ≤ R.slots) :
    va_Run p l e R s m args below meth c H locs cells slots mc ms (F0 m pc ls (As.reverse ++ .ref b :: rest)) rest (Qc (Value.ref b :: As).toArray) (frG G) := by
  obtain ⟨h2, h3, h4, h6, h5⟩ := cv
  exact va_runI (As := As) (rest := rest) B.fix hMet (cwI n B.ts (lw_meth h4) rfl rfl rfl (B.ts _ h3) (B.ts _ q) (B.ts _ h2) h6 h5 ⟨hR.1, by show 8 + (maxL + 11) + 64 * d ≤ _; omega⟩) (hM.pre B) rfl hn hl rfl (lv_room hW) hdg hf
/-- a nest mate's private word, in the run -/
theorem Kn.nestM {G : GG} {U : State} (h : Kn G U) {own host : String} {index : Nat} {y : MethodName} (q : Cond.methodLinkNest own index y host ∈ lw_tbl) : va_Nw (.methodLinkNest own index y host) U := by
  obtain ⟨⟨⟨b0, hw0, -⟩, -⟩, hW0⟩ := h
  exact va_Nw.warmM hW0 (va_Nw.of rfl (hw0 _ q))
theorem r_VN (B : Cx G p s m args meth c cc nL own) (hM : Md G th rh ph ka H locs) {pl ci : Nat} {r : vw_C} {host : String} (hb : th b = some (pl, .inl ci)) (hc : gCl[ci]? = some r) (hrc : r.1 = y.cls) (hMet : Met l y (ws_ y bytes maxL ret) (RM d mc ms) (Pc_ G (.ref b :: As) th rh ph ka) Qc mc ms (frG G)) (cv : CalV y bytes maxL ret n) (q : Cond.methodLinkNest own index y host ∈ lw_tbl) (hn : As.length = n) (hl : ls.size = nL) (hW : (rest.map fun v => v.category).sum ≤ 8) (hdg : decode cc pc = .ok (.invokevirtual index, 3)) (hR : d + 1 ≤ R.frames ∧ 19 + maxL + 64 * d ≤ R.locals) (hf : cells + mc ≤ R.cells ∧ slots + ms ≤ R.slots) :
    va_Run p l e R s m args below meth c H locs cells slots mc ms (F0 m pc ls (As.reverse ++ .ref b :: rest)) rest (Qc (Value.ref b :: As).toArray) (frG G) := by
  obtain ⟨h1, h2, h3, h4, h5⟩ := cv
  refine va_runVN (C := y.cls) (As := As) (rest := rest) B.fix hMet ⟨va_cnB n B.ts (lw_meth h4) rfl rfl rfl (B.kn.nestM q) (B.ts _ h3) h5 ⟨hR.1, by show 8 + (maxL + 11) + 64 * d ≤ _; omega⟩, B.ts _ h1, B.ts _ h2⟩ ⟨(hM.pre B (av := .ref b :: As)).1, ?_, (hM.pre B (av := .ref b :: As)).2⟩ rfl hn hl rfl (lv_room hW) hdg hf
  rw [← hrc]
  exact hM.recv B hb hc
theorem r_SN (B : Cx G p s m args meth c cc nL own) (hM : Md G th rh ph ka H locs) {host : String} (hMet : Met l y (ws_ y bytes maxL ret) (RM d mc ms) (Pc_ G As th rh ph ka) Qc mc ms (frG G)) (cv : CalS y bytes maxL ret n) (q : Cond.methodLinkNest own index y host ∈ lw_tbl) (hn : As.length = n) (hl : ls.size = nL) (hW : (rest.map fun v => v.category).sum ≤ 8) (hdg : decode cc pc = .ok (.invokestatic index, 3)) (hR : d + 1 ≤ R.frames ∧ 19 + maxL + 64 * d ≤ R.locals) (hf : cells + mc ≤ R.cells ∧ slots + ms ≤ R.slots) :
    va_Run p l e R s m args below meth c H locs cells slots mc ms (F0 m pc ls (As.reverse ++ rest)) rest (Qc As.toArray) (frG G) := by
  obtain ⟨h2, h3, h4, h5⟩ := cv
  exact va_runSN (As := As) (rest := rest) B.fix hMet ⟨va_cnB n B.ts (lw_meth h4) rfl rfl rfl (B.kn.nestM q) (B.ts _ h3) h5 ⟨hR.1, by show 8 + (maxL + 11) + 64 * d ≤ _; omega⟩, B.ts _ h2, trivial⟩ (hM.pre B) rfl hn hl rfl (lv_room hW) hdg hf
theorem r_IN (B : Cx G p s m args meth c cc nL own) (hM : Md G th rh ph ka H locs) {host : String} (hMet : Met l y (ws_ y bytes maxL none) (RM d mc ms) (Pc_ G (.ref b :: As) th rh ph ka) Qc mc ms (frG G)) (cv : CalI y bytes maxL n) (q : Cond.methodLinkNest own index y host ∈ lw_tbl) (hn : As.length = n) (hl : ls.size = nL) (hW : (rest.map fun v => v.category).sum ≤ 8) (hdg : decode cc pc = .ok (.invokespecial index, 3)) (hR : d + 1 ≤ R.frames ∧ 19 + maxL + 64 * d ≤ R.locals) (hf : cells + mc ≤ R.cells ∧ slots + ms ≤ R.slots) :
    va_Run p l e R s m args below meth c H locs cells slots mc ms (F0 m pc ls (As.reverse ++ .ref b :: rest)) rest (Qc (Value.ref b :: As).toArray) (frG G) := by
  obtain ⟨h2, h3, h4, h6, h5⟩ := cv
  exact va_runIN (As := As) (rest := rest) B.fix hMet ⟨va_cnB n B.ts (lw_meth h4) rfl rfl rfl (B.kn.nestM q) (B.ts _ h3) h5 ⟨hR.1, by show 8 + (maxL + 11) + 64 * d ≤ _; omega⟩, h6, B.ts _ h2⟩ (hM.pre B) rfl hn hl rfl (lv_room hW) hdg hf
variable {st0 : List Value} {a0 : Array Value}
theorem Md.after (hM : Md G th rh ph ka H locs) {th' : Th} {rh' : Rh} {ph' : Ph} {ka' : Ka} {t T' : State} {L : List Loc} (e1 : T'.heap = t.heap) (h : Mem G th' rh' ph' ka' t.heap) (hL : ∀ q ∈ L, frG G q.base) : Md G th' rh' ph' ka' T'.heap (locs ++ L) := ⟨by rw [e1]; exact h, fun q hq => by
  rcases List.mem_append.mp hq with h | h
  · exact hM.2 q h
  · exact hL q h⟩
/-- behind a call -/
theorem k_i {post : Int32 → Ka → Prop} (hr : va_Run p l e R s m args below meth c H locs cells slots mc ms (F0 m pc ls st0) rest (Qi G th rh ph post a0) (frG G)) (hM : Md G th rh ph ka H locs)
    (kk : ∀ (r : Int32) (ka : Ka) (H : Heap) (locs : List Loc), post r ka → Md G th rh ph ka H locs → W p l e R s m args below meth c H locs (cells + mc) (slots + ms) Q (F0 m (pc + 3) ls (.int r :: rest))) : W p l e R s m args below meth c H locs cells slots Q (F0 m pc ls st0) := by
  intro T hT X
  obtain ⟨v, st₀, t, T', L, h0, X', hL, e1, e2, ⟨r, ka', hv, hp, hm⟩, st⟩ := hr T hT X
  cases hv
  obtain ⟨t2, a1, b1⟩ := kk r ka' T'.heap (locs ++ L) hp (hM.after e1 hm hL) T' rfl X'
  exact ⟨t2, st t2 a1, b1⟩
theorem k_l {post : Int64 → Ka → Prop} (hr : va_Run p l e R s m args below meth c H locs cells slots mc ms (F0 m pc ls st0) rest (Ql G th rh ph post a0) (frG G)) (hM : Md G th rh ph ka H locs)
    (kk : ∀ (r : Int64) (ka : Ka) (H : Heap) (locs : List Loc), post r ka → Md G th rh ph ka H locs → W p l e R s m args below meth c H locs (cells + mc) (slots + ms) Q (F0 m (pc + 3) ls (.long r :: rest))) : W p l e R s m args below meth c H locs cells slots Q (F0 m pc ls st0) := by
  intro T hT X
  obtain ⟨v, st₀, t, T', L, h0, X', hL, e1, e2, ⟨r, ka', hv, hp, hm⟩, st⟩ := hr T hT X
  cases hv
  obtain ⟨t2, a1, b1⟩ := kk r ka' T'.heap (locs ++ L) hp (hM.after e1 hm hL) T' rfl X'
  exact ⟨t2, st t2 a1, b1⟩
theorem k_v {post : Ka → Prop} (hr : va_Run p l e R s m args below meth c H locs cells slots mc ms (F0 m pc ls st0) rest (Qv G th rh ph post a0) (frG G)) (hM : Md G th rh ph ka H locs)
    (kk : ∀ (ka : Ka) (H : Heap) (locs : List Loc), post ka → Md G th rh ph ka H locs → W p l e R s m args below meth c H locs (cells + mc) (slots + ms) Q (F0 m (pc + 3) ls rest)) : W p l e R s m args below meth c H locs cells slots Q (F0 m pc ls st0) := by
  intro T hT X
  obtain ⟨v, st₀, t, T', L, h0, X', hL, e1, e2, ⟨ka', hv, hp, hm⟩, st⟩ := hr T hT X
  cases hv
  obtain ⟨t2, a1, b1⟩ := kk ka' T'.heap (locs ++ L) hp (hM.after e1 hm hL) T' rfl X'
  exact ⟨t2, st t2 a1, b1⟩
theorem k_iG {post : Int32 → Th → Rh → Ph → Ka → Prop} (hr : va_Run p l e R s m args below meth c H locs cells slots mc ms (F0 m pc ls st0) rest (QGi G post a0) (frG G)) (hM : Md G th rh ph ka H locs)
    (kk : ∀ (r : Int32) (th : Th) (rh : Rh) (ph : Ph) (ka : Ka) (H : Heap) (locs : List Loc), post r th rh ph ka → Md G th rh ph ka H locs → W p l e R s m args below meth c H locs (cells + mc) (slots + ms) Q (F0 m (pc + 3) ls (.int r :: rest))) : W p l e R s m args below meth c H locs cells slots Q (F0 m pc ls st0) := by
  intro T hT X
  obtain ⟨v, st₀, t, T', L, h0, X', hL, e1, e2, ⟨r, th', rh', ph', ka', hv, hp, hm⟩, st⟩ := hr T hT X
  cases hv
  obtain ⟨t2, a1, b1⟩ := kk r th' rh' ph' ka' T'.heap (locs ++ L) hp (hM.after e1 hm hL) T' rfl X'
  exact ⟨t2, st t2 a1, b1⟩
theorem k_vG {post : Th → Rh → Ph → Ka → Prop} (hr : va_Run p l e R s m args below meth c H locs cells slots mc ms (F0 m pc ls st0) rest (QGv G post a0) (frG G)) (hM : Md G th rh ph ka H locs)
    (kk : ∀ (th : Th) (rh : Rh) (ph : Ph) (ka : Ka) (H : Heap) (locs : List Loc), post th rh ph ka → Md G th rh ph ka H locs → W p l e R s m args below meth c H locs (cells + mc) (slots + ms) Q (F0 m (pc + 3) ls rest)) : W p l e R s m args below meth c H locs cells slots Q (F0 m pc ls st0) := by
  intro T hT X
  obtain ⟨v, st₀, t, T', L, h0, X', hL, e1, e2, ⟨th', rh', ph', ka', hv, hp, hm⟩, st⟩ := hr T hT X
  cases hv
  obtain ⟨t2, a1, b1⟩ := kk th' rh' ph' ka' T'.heap (locs ++ L) hp (hM.after e1 hm hL) T' rfl X'
  exact ⟨t2, st t2 a1, b1⟩
theorem k_rG {post : Option Nat → Th → Rh → Ph → Ka → Prop} (hr : va_Run p l e R s m args below meth c H locs cells slots mc ms (F0 m pc ls st0) rest (QGr G post a0) (frG G)) (hM : Md G th rh ph ka H locs)
    (kk : ∀ (r : Option Nat) (th : Th) (rh : Rh) (ph : Ph) (ka : Ka) (H : Heap) (locs : List Loc), post r th rh ph ka → Md G th rh ph ka H locs → W p l e R s m args below meth c H locs (cells + mc) (slots + ms) Q (F0 m (pc + 3) ls (va_rf r :: rest))) : W p l e R s m args below meth c H locs cells slots Q (F0 m pc ls st0) := by
  intro T hT X
  obtain ⟨v, st₀, t, T', L, h0, X', hL, e1, e2, ⟨r, th', rh', ph', ka', hv, hp, hm⟩, st⟩ := hr T hT X
  cases hv
  obtain ⟨t2, a1, b1⟩ := kk r th' rh' ph' ka' T'.heap (locs ++ L) hp (hM.after e1 hm hL) T' rfl X'
  exact ⟨t2, st t2 a1, b1⟩
end RC
