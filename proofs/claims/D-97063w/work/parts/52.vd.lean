/-! a call that lands in an interface's own method; super's methods; whatever is run -/
set_option maxRecDepth 100000
/-- at the nearest class nothing else is held -/
def nearD (vm : Vm) (c : ClassId) (nm ds : String) (m : MethodId) : Prop := (∀ k d, nearestHeld vm c nm ds = some (k, .default d) → d = m) ∧ ∀ k b, nearestHeld vm c nm ds ≠ some (k, .thrower b)
theorem anyAlike {u v : Vm} (h : u.Alike v) (f : Class → Bool) (hf : ∀ k : Class, f k.bare = f k) (c : ClassId) : (v.classes[c]?).any f = (u.classes[c]?).any f := by
  cases hk : u.classes[c]? with
  | none => rw [h.none hk]
  | some k =>
    obtain ⟨k', hk', he⟩ := h.2.2 _ _ hk
    rw [hk']
    show f k' = f k
    rw [← hf k', Class.bare_of he, hf]
theorem nearAlike {u v : Vm} (h : u.Alike v) (c : ClassId) (nm ds : String) : nearestHeld v c nm ds = nearestHeld u c nm ds := by
  have e1 : superinterfaceMethods v = superinterfaceMethods u := by rw [← superinterfaceMethods_bare v, h.bare_eq, superinterfaceMethods_bare]
  have e2 : maximallySpecific v = maximallySpecific u := by rw [← maximallySpecific_bare v, h.bare_eq, maximallySpecific_bare]
  simp only [nearestHeld, held, h.superclasses, h.declaredIn, h.superinterfaces, h.method?, e1, e2, anyAlike h (·.isInterface) (fun _ => rfl), anyAlike h (fun x => x.methods.any fun m => !m.isAbstract && !m.isStatic) (fun _ => rfl), fun g => anyAlike h (·.interfaces.any g) (fun _ => rfl)]
/-- what the word gives -/
theorem lands_spec {A : Array Value} {s : State} {C : String} {x y : MethodName} (h : (Cond.landsInDefault C x y).before A s = true) :
    ∃ c r m rm, s.vm.findClass C = some c ∧ s.methodFound? x.cls x.name x.desc = some r ∧ s.methodNamed? y = some m ∧ s.vm.method? r = some rm ∧ selectMethod {} s.vm c r = .method m ∧ (∃ mk, s.vm.classes[m.cls]? = some mk ∧ mk.isInterface = true) ∧ nearD s.vm c rm.name rm.desc m := by
  simp only [Cond.before, Cond.holds, Cond.value] at h
  cases hc : s.vm.findClass C with
  | none => simp [hc] at h
  | some c =>
    cases hr : s.methodFound? x.cls x.name x.desc with
    | none => simp [hc, hr] at h
    | some r =>
      cases hm : s.methodNamed? y with
      | none => simp [hc, hr, hm] at h
      | some m =>
        cases hrm : s.vm.method? r with
        | none => simp [hc, hr, hm, hrm] at h
        | some rm =>
          simp only [hc, hr, hm, hrm, Option.map_some, beq_iff_eq, Option.some.injEq] at h
          split at h
          · rename_i m' hsel
            simp only [Bool.and_eq_true, decide_eq_true_eq, Bool.not_eq_true', Option.any_eq_true] at h
            obtain ⟨⟨⟨⟨rfl, mk, hmk, hi⟩, -⟩, -⟩, hnear⟩ := h
            refine ⟨c, r, m', rm, rfl, rfl, rfl, hrm, hsel, ⟨mk, hmk, hi⟩, fun k d hk => ?_, fun k b hk => ?_⟩
            · rw [hk] at hnear; simpa using hnear
            · rw [hk] at hnear; cases hnear
          · cases h
/-- selection ends at the interface's method -/
theorem selD {Q : Selection → Pre} {E : CtlPost} {e : Env} {d : Bool} {acts : List Action} {s : State} {c : ClassId} {r m : MethodId} {rm mm : Method} {mk : Class} (h1 : selectMethod e.platform s.vm c r = .method m) (h2 : s.vm.method? r = some rm) (h3 : s.vm.method? m = some mm) (h4 : s.vm.classes[m.cls]? = some mk) (h5 : mk.isInterface = true) (h6 : nearD s.vm c rm.name rm.desc m) :
    wp (invokeinterface.selectVirtual c r) Q E e d acts s ↔ Q (.method m) d acts s := by
  cases hp : e.platform.privateHidesDefault
  · simp [invokeinterface.selectVirtual, h2, selectFor_method h1 h3, h4, h5, hp]
  · cases hn : nearestHeld s.vm c rm.name rm.desc with
    | none => simp [invokeinterface.selectVirtual, h2, selectFor_method h1 h3, h4, h5, hp, hn]
    | some kh =>
      obtain ⟨k, hd⟩ := kh
      cases hd with
      | nothing => simp [invokeinterface.selectVirtual, h2, selectFor_method h1 h3, h4, h5, hp, hn]
      | default d' =>
        cases h6.1 k d' hn
        simp [invokeinterface.selectVirtual, h2, selectFor_method h1 h3, h4, h5, hp, hn]
      | thrower b => exact absurd hn (h6.2 k b)
section
variable {Q : Unit → Pre} {E : CtlPost} {e : Env} {d : Bool} {acts : List Action} {s : State} {f : JFrame}
theorem wpVD {index a : Nat} {r m : MethodId} {c' : ClassId} {k k' mk : Class} {rmeth mm : Method} {As rest : List Value} {cell : Cell} (hs : s.topJava?.isSome) (hnamed : namesResolved s.vm f.method.cls index c') (hk' : s.vm.classes[c']? = some k') (hclass : k'.isInterface = false) (hr : s.vm.methodReady f.method.cls index r) (hk : s.vm.classes[r.cls]? = some k) (hrm : s.vm.method? r = some rmeth) (hpoly : signaturePolymorphic k rmeth = false) (hstatic : rmeth.isStatic = false) (hlen : As.length = rmeth.sig.parameters.length) (hstack : f.stack = As.reverse ++ .ref a :: rest) (hcell : s.heap[a]? = some cell) (hobj : ∀ c, cell.vm ≠ .statics c) (hsel : selectMethod e.platform s.vm cell.cls r = .method m) (hm : s.vm.method? m = some mm) (habs : mm.isAbstract = false) (hmk : s.vm.classes[m.cls]? = some mk) (hitf : mk.isInterface = true) (hnear : nearD s.vm cell.cls rmeth.name rmeth.desc m) :
    wp (invokevirtual.sem index) Q E e d acts (s.setTop f) ↔ E (.invoke m (.ref a :: As).toArray) acts (s.setTop { f with stack := rest }) := by
  obtain ⟨kc, cf, ci, n, h1, h2, h3, h4⟩ := hnamed
  have hpre : ∀ {Q' : ClassId → Pre}, wp (Jvm.refClassAt index) Q' E e d acts (s.setTop f) ↔ Q' c' d acts (s.setTop f) := by
    intro Q'
    rcases h3 with h3 | h3 <;> simp [Jvm.refClassAt, Jvm.constantAt, State.method?_setTop f hs, h1, h2, h3, W.resolveClassAt_ready (State.method?_setTop f hs) h4]
  simp only [invokevirtual.sem, wp_bind', hpre, W.theClass, State.vm_setTop, hk', Option.some.injEq, exists_eq_left', W.ite, hclass, Bool.false_eq_true, if_false, wp_pure', W.resolveMethodAt_ready (State.method?_setTop f hs) hr]
  simp only [W.theMethod, State.vm_setTop, hrm, Option.some.injEq, exists_eq_left', Seam.isPolymorphic, wp_bind', W.theClass, hk, wp_pure', hpoly, W.ite, Bool.false_eq_true, if_false, hstatic, Jvm.popArgs, ← hlen, popN_top hs hstack]
  simp [hs, hcell, hobj, selD (s := s.setTop _) (show selectMethod e.platform (s.setTop _).vm cell.cls r = .method m from hsel) hrm hm hmk hitf hnear, hm, habs]
end
section
variable {p : Program} {l : Launch} {e : Env} {R : Room} {s : State} {m : MethodId} {args : Array Value} {below : List Frame} {meth : Method} {c : Code} {T : State} {locs : List Loc} {cells slots : Nat}
/-- the step of such a call -/
theorem stepVD (X : Stand p l e R s m args below meth c T locs cells slots) (hexec : p.tables.exec = Jvm.exec) {own owner : String} {index : Nat} {x : MethodName} (hown : s.vm.findClass own = some m.cls) (hlink : (Cond.methodLink own index x).before args s = true) (hsame : (Cond.sameMethod x.cls owner x.name x.desc).before args s = true) (howner : owner ≠ "java/lang/invoke/MethodHandle" ∧ owner ≠ "java/lang/invoke/VarHandle")
    {r0 : MethodId} {r : Method} (hn : s.methodNamed? ⟨owner, x.name, x.desc⟩ = some r0) (hrm : s.vm.method? r0 = some r) (hstatic : r.isStatic = false) {a : Addr} {cell : Cell} (hcell : T.heap[a]? = some cell) (hobj : ∀ c, cell.vm ≠ .statics c)
    {m' : MethodId} {mm : Method} {mk : Class} (hsel : selectMethod e.platform s.vm cell.cls r0 = .method m') (hm' : s.vm.method? m' = some mm) (habs : mm.isAbstract = false) (hmk : s.vm.classes[m'.cls]? = some mk) (hitf : mk.isInterface = true) (hnear : nearD s.vm cell.cls r.name r.desc m')
    {g : JFrame} (hg : g.method = m) {As rest : List Value} (hlen : As.length = r.sig.parameters.length) (hstack : g.stack = As.reverse ++ .ref a :: rest) (hdg : decode c.code g.pc = .ok (.invokevirtual index, 3)) :
    ∃ vm', Stand p l e R s m args below meth c (T.setVm vm') locs cells slots ∧ ∀ target, (∀ acts, Steps p.tables e below (doInvoke e ((T.setVm vm').setTop { g with stack := rest }) acts m' (.ref a :: As).toArray).1 target) → Steps p.tables e below (T.setTop g) target := by
  have hpl : e.platform.magicAccessors = ({} : Platform).magicAccessors := by rw [X.admits.platform]
  obtain ⟨cn, ck, r1, hcn, hck, hni, hf, hn1⟩ := Cond.sameMethod_found hsame
  cases hn.symm.trans hn1
  obtain ⟨ci, hl, hright⟩ := Cond.methodLink_specUp hown hcn hck hni hf hlink e.platform hpl (by rw [X.admits.platform])
  have hE : s.MethodEntryUp e T.vm m.cls index cn r0 ci := State.methodEntryUp X.warmed hl hright
  obtain ⟨kr, hkr, hnr⟩ := className_of_methodNamed hn
  obtain ⟨dk, cfile, nt, _, _, _, _, _, hd, hcf, hcp, -⟩ := hl.here
  have al := hE.warmed.alike
  obtain ⟨dk2, hdk2, hres⟩ := hE.classReady
  obtain ⟨dk3, hdk3, hed⟩ := al.2.2 _ _ hd
  cases hdk2.symm.trans hdk3
  obtain ⟨kr2, hkr2, her⟩ := al.2.2 _ _ hkr
  obtain ⟨ck2, hck2, hec⟩ := al.2.2 _ _ hck
  obtain ⟨mk2, hmk2, hem⟩ := al.2.2 _ _ hmk
  refine ⟨T.vm.calledUp m.cls ci index cn r0, X.noted hE.warmed, fun target hrest => ?_⟩
  subst hg
  have near2 : nearD (T.vm.calledUp g.method.cls ci index cn r0) cell.cls r.name r.desc m' := by
    unfold nearD
    rw [nearAlike al]
    exact hnear
  jvm_step X.here [hexec, hdg, invokevirtual.wp_coldUp (e := e) (s := T) (s₀ := s) (f := g) X.here.top X.warmed hE hd hcf (Or.inl hcp) hck hni,
    wpVD (e := e) (s := T.setVm (T.vm.calledUp g.method.cls ci index cn r0)) (f := g) (r := r0) (m := m') (c' := cn) (k := kr2) (k' := ck2) (mk := mk2) (rmeth := r) (mm := mm) (a := a) (As := As) (rest := rest) (cell := cell)
      X.here.top ⟨dk2, cfile, ci, nt, hdk2, by rw [hed]; exact hcf, Or.inl hcp, dk2, hdk2, hres⟩ hck2 (by rw [hec]; exact hni) hE.ready hkr2
      (by show (T.vm.calledUp g.method.cls ci index cn r0).method? r0 = some r; rw [al.method?]; exact hrm)
      (by rw [her]; show signaturePolymorphic kr r = false; simp [signaturePolymorphic, hnr, howner.1, howner.2]) hstatic hlen hstack hcell hobj
      (by show selectMethod e.platform (T.vm.calledUp g.method.cls ci index cn r0) cell.cls r0 = .method m'; rw [al.selectMethod]; exact hsel)
      (by show (T.vm.calledUp g.method.cls ci index cn r0).method? m' = some mm; rw [al.method?]; exact hm') habs hmk2 (by rw [hem]; exact hitf) near2]
  exact hrest
end
/-- the way back from a call whose method's class may lie uninitialised (an interface's own method): its body is walked -/
theorem backU {l : Launch} {R : Room} {p : Program} {e : Env} {below : List Frame} {s : State} {sargs : Array Value} {y : MethodName} {len W0 : Nat} {rm : Room} {Pc : Array Value → State → Prop} {Qc : Array Value → State → Outcome → State → Prop} {mc ms : Nat} {free : Addr → Prop} {cc : ByteArray} {maxL : Nat} {ret : Option FieldType}
    (hy : plainName y.cls = true) (hframes : rm.frames + 1 ≤ R.frames) (hlocals : W0 + (maxL + 11) + rm.locals ≤ R.locals) (hrc : rm.cells = mc) (hrs : rm.slots = ms)
    (hcode : ∀ (a' : Array Value) (U : State), s.WarmedH U.vm → (Cond.code y cc maxL ret).before a' U = true) (hblind : FrameBlind Pc)
    (body : ∀ (s' : State) (m' : MethodId) (a : Array Value) (bl : List Frame) (meth' : Method) (c' : Code), s'.methodNamed? y = some m' → s'.vm.method? m' = some meth' → c'.code = cc → c'.maxLocals = maxL → meth'.sig.returnType = ret → meth'.locks = false → s.WarmedH s'.vm → Pc a s' →
      W p l e rm s' m' a bl meth' c' s'.heap [] 0 0 (MQ bl Qc a s' mc ms free) (entryFrame m' a maxL)) :
    Back l R p e below s sargs y len W0 (PreOf R mc ms Pc) (PostOf Qc mc ms free) := by
  intro m meth c A g ig mk a X hg hsize hdg hW hn hp
  obtain ⟨U, Ls, c0, s0⟩ := A
  obtain ⟨h4, h5, hPc⟩ := hp
  dsimp only [Pt.U, Pt.locs, Pt.cells, Pt.slots] at h4 h5 hPc X hn ⊢
  obtain ⟨methY, cY, hmY, hcY, hbY, hlY, hrY, hkY, -, -⟩ := Cond.code_spec hn (hcode a U X.warmed)
  have h : At U g.method c below := by rw [hg]; exact X.here
  have hroom : (U.calling g mk a).hasRoom e.platform rm = true := X.room_calling (g := g) (R' := rm) hsize hmY hcY hframes (by rw [hlY]; omega) (by omega) (by omega)
  have hbl : (U.setTop g).frames = .java g :: below := by rw [State.frames_setTop' g h.top, X.tail]
  have hfr : (U.calling g mk a).frames = .invoking mk a :: (U.setTop g).frames := by
    rw [State.frames_calling h.top g mk a, State.frames_setTop' g h.top]
  have hcur := State.cur_lt_of_frames hfr
  obtain ⟨t0, ht0, -⟩ := State.frames_cons hfr
  have hf1 : ((U.calling g mk a).setFrames (.java (entryFrame mk a maxL) :: (U.setTop g).frames)).frames = .java (entryFrame mk a maxL) :: (U.setTop g).frames := State.frames_setFrames _ hcur
  have ht1 := State.topJava?_of_frames hf1
  have hplain : ((U.calling g mk a).setFrames (.java (entryFrame mk a maxL) :: (U.setTop g).frames)).plainMethod mk := by
    refine State.plainMethod.of_name ?_
    intro k hk
    obtain ⟨k', hk', hn'⟩ := className_of_methodNamed hn
    cases (show U.vm.classes[mk.cls]? = some k from hk).symm.trans hk'
    rw [hn']; exact hy
  have hrun : (U.calling g mk a).status = .running := h.running
  have hable : (U.calling g mk a).curStatus? = some .runnable := by simpa [State.calling] using h.runnable
  have halone : (U.calling g mk a).alone = true := by simpa [State.calling] using h.alone
  have hAt : At ((U.calling g mk a).setFrames (.java (entryFrame mk a maxL) :: (U.setTop g).frames)) mk cY (U.setTop g).frames :=
    ⟨by rw [ht1]; rfl, ⟨[], by rw [hf1]; rfl⟩, hrun, by simpa using hable, by simpa using halone, by rw [State.code?_eq]; show (U.vm.method? mk).bind _ = _; rw [hmY]; exact hcY, hplain⟩
  have hcodeg : (U.calling g mk a).code? g.method = some c := by
    have := h.code
    rw [State.code?_eq] at this ⊢
    simpa [State.calling, State.pushFrame, State.setFrames] using this
  have hhears : (U.calling g mk a).hears mk (U.setTop g).frames = true := by
    rw [hbl]
    simp [State.hears, hcodeg, hdg, Except.toOption]
  have X1 : Stand p l e rm (U.calling g mk a) mk a (U.setTop g).frames methY cY ((U.calling g mk a).setFrames (.java (entryFrame mk a maxL) :: (U.setTop g).frames)) [] 0 0 := by
    refine ⟨X.admits, X.cas, X.clock, hfr, hroom, hhears, hmY, hcY, hAt, by rw [hf1]; rfl, State.WarmedH.refl _, by rw [State.stackLimits_setFrames], by rw [State.stackBytes_setFrames], ?_⟩
    exact (State.sameButNew.refl _ ht0).setFrames (.java (entryFrame mk a maxL) :: (U.setTop g).frames) hcur
  obtain ⟨t, hst, o, hr2, hend, hq, L, hfe, hL⟩ := body (U.calling g mk a) mk a (U.setTop g).frames methY cY hn hmY hbY hlY hrY hkY X.warmed (hblind a U g mk hPc) ((U.calling g mk a).setFrames (.java (entryFrame mk a maxL) :: (U.setTop g).frames)) rfl X1
  have hfull : e.platform.stackFull ((((U.setTop g).threads[(U.setTop g).cur]?).getD { frames := [] })) (U.setTop g).frames cY.maxLocals = false := by
    refine X.notFull hsize (by omega) ?_
    rw [hlY]; omega
  have hin : (doInvoke e (U.setTop g) [] mk a).1 = ((U.calling g mk a).setFrames (.java (entryFrame mk a maxL) :: (U.setTop g).frames)).setTop (entryFrame mk a maxL) := by
    rw [(doInvoke_java (s := U.setTop g) (e := e) (meth := methY) (code := cY) hmY hcY hkY hfull).1, State.setTop_self ht1]
    simp only [State.calling, State.pushFrame, State.setFrames_setFrames, hlY, entryFrame]
  obtain ⟨n, hn1, hw⟩ := hst
  obtain ⟨⟨v, rfl⟩, hW2, e2, q2, q3, q4, q5, q6⟩ := id hfe
  have e3 : t = ({ (U.calling g mk a).setFrames t.frames with heap := t.heap, slotsUsed := t.slotsUsed } : State).setVm t.vm := by
    have : t = ({ t with vm := (U.calling g mk a).vm } : State).setVm t.vm := rfl
    rw [e2] at this
    exact this
  rw [hbl] at hend
  obtain ⟨c2, i2, len2, hc2, hd2, hf2⟩ := hend
  have hW' : U.WarmedH t.vm := hW2
  have hcc : c2 = c := by
    have h1 : t.code? g.method = U.code? g.method := by
      rw [State.code?_eq, State.code?_eq, hW'.alike.method?]
    exact Option.some.inj (hc2.symm.trans (h1.trans h.code))
  subst hcc
  have hlen : len2 = len := by rw [hdg] at hd2; cases hd2; rfl
  subst hlen
  obtain ⟨g0, hg0⟩ := Option.isSome_iff_exists.mp h.top
  obtain ⟨r, hr⟩ := State.topJava?_eq_some.mp hg0
  have hs2 : t = (({ U with heap := t.heap, slotsUsed := t.slotsUsed } : State).setVm t.vm).setTop { g with pc := g.pc + len2, stack := v.toList ++ g.stack } := by
    have hr' : (({ U with heap := t.heap, slotsUsed := t.slotsUsed } : State).setVm t.vm).frames = .java g0 :: r := hr
    refine e3.trans ?_
    rw [hf2, State.calling_eq h.top, State.setFrames_setFrames, State.setTop_of_frames _ hr', ← X.tail, hr]
    rfl
  have hsame : U.sameButNew ({ U with heap := t.heap, slotsUsed := t.slotsUsed } : State) L mc ms := by
    refine ⟨?_, q2, q3, q4, q5, q6⟩
    obtain ⟨t', ht', -⟩ := State.frames_cons hr
    show ({ U with heap := t.heap, slotsUsed := t.slotsUsed } : State) = { U.setFrames U.frames with heap := t.heap, slotsUsed := t.slotsUsed }
    rw [State.setFrames_self ht']
  subst hg
  refine ⟨v, ⟨(({ U with heap := t.heap, slotsUsed := t.slotsUsed } : State).setVm t.vm), Ls ++ L, c0 + mc, s0 + ms⟩,
    ⟨X.admits, X.cas, X.clock, X.frames, X.room, X.hears, X.method, X.code, (X.here.setHeapUsed t.heap t.slotsUsed).setVm hW'.alike, X.tail, State.WarmedH.trans X.warmed hW', X.limits, X.bytes, X.same.trans (hsame.setVm s.vm)⟩,
    ⟨g, mk, t, L, rfl, rfl, hq, rfl, hL, rfl, rfl⟩, ?_⟩
  show Steps p.tables e below _ ((({ U with heap := t.heap, slotsUsed := t.slotsUsed } : State).setVm t.vm).setTop { g with pc := g.pc + len2, stack := v.toList ++ g.stack })
  rw [← hs2, hin]
  refine ⟨n, hn1, fun j hj => ?_⟩
  refine Within.weaken (mid := [.java g]) ?_
  show Within _ (.java g :: below)
  rw [← hbl]
  exact hw j hj
section RD
variable {p : Program} {l : Launch} {e : Env} {R : Room} {s : State} {m : MethodId} {args : Array Value} {below : List Frame} {meth : Method} {c : Code} {H : Heap} {locs : List Loc} {cells slots : Nat} {Q : State → Prop}
variable {cc : ByteArray} {nL pc : Nat} {own : String} {ls : Array Slot} {rest : List Value} {G : GG} {th : Th} {rh : Rh} {ph : Ph} {ka : Ka}
abbrev xAbove : MethodName := ⟨"LevelCellars$Cellar", "above", "(I)I"⟩
/-- a word of the claim's narrowing, at the start -/
theorem Kn.nar {U : State} (h : Kn G U) {w : Cond} (hw : w ∈ flatC (Jvm.Cond.and given_1 narrow_1)) : ∃ A, w.before A G.2.2 = true := by
  obtain ⟨⟨⟨b0, -, hn⟩, -⟩, -⟩ := h
  exact ⟨_, flat_of_before _ hn w hw⟩
/-- what is walked of a method that is met so -/
def Wlk (l : Launch) (G : GG) (y : MethodName) (cc : ByteArray) (maxL : Nat) (ret : Option FieldType) (rm : Room) (av : List Value) (th : Th) (rh : Rh) (ph : Ph) (ka : Ka) (Qc : Array Value → State → Outcome → State → Prop) (mc ms : Nat) : Prop :=
  ∀ (p : Program) (e : Env) (s : State) (m : MethodId) (below : List Frame) (meth : Method) (c : Code), Cx G p s m av.toArray meth c cc maxL y.cls → meth.sig.returnType = ret → meth.name = y.name → ∀ (ls : Array Slot), lv_has ls maxL (lv_args 0 av) → Md G th rh ph ka s.heap [] →
      W p l e rm s m av.toArray below meth c s.heap [] 0 0 (MQ below Qc av.toArray s mc ms (frG G)) (F0 m 0 ls [])
theorem nar_lands {kd : Nat} (h : kd ≤ 5) {r : vw_C} (hc : gCl[4 + kd]? = some r) : Cond.landsInDefault r.1 xAbove yX17_above ∈ flatC (Jvm.Cond.and given_1 narrow_1) := by
  rcases (show kd = 0 ∨ kd = 1 ∨ kd = 2 ∨ kd = 3 ∨ kd = 4 ∨ kd = 5 by omega) with rfl | rfl | rfl | rfl | rfl | rfl <;> cases hc <;> decide +kernel
theorem r_above (B : Cx G p s m args meth c cc nL "LevelCellars$Cellar") (hM : Md G th rh ph ka H locs) {b pl kd d : Nat} {v : Int32} {Qc : Array Value → State → Outcome → State → Prop} (hb : th b = some (pl, .inl (4 + kd))) (hkd : kd ≤ 5) (hWlk : Wlk l G yX17_above cX17_above 2 (some .int) (RM d 0 0) [.ref b, .int v] th rh ph ka Qc 0 0) (hl : ls.size = nL) (hW : (rest.map fun v => v.category).sum ≤ 8) (hdg : decode cc pc = .ok (.invokevirtual 47, 3)) (hR : d + 1 ≤ R.frames ∧ 21 + 64 * d ≤ R.locals) (hf : cells + 0 ≤ R.cells ∧ slots + 0 ≤ R.slots) :
    va_Run p l e R s m args below meth c H locs cells slots 0 0 (F0 m pc ls (.int v :: .ref b :: rest)) rest (Qc [.ref b, .int v].toArray) (frG G) := by
  obtain ⟨rc, hrc, -⟩ := gC4 hkd
  have hwords : ∀ (s' : State), s.WarmedH s'.vm → ∀ (a' : Array Value), ∀ w ∈ lw_all, w.before a' s' = true := fun s' hw a' w h => word_at hw (lw_self w h).2 (B.ts w h)
  have hK : Back l R p e below s args yX17_above 3 8 (PreOf R 0 0 (Pc_ G [.ref b, .int v] th rh ph ka)) (PostOf Qc 0 0 (frG G)) := by
    refine backU (cc := cX17_above) (maxL := 2) (ret := some .int) (rm := RM d 0 0) (by decide) hR.1 (by show 8 + (2 + 11) + 64 * d ≤ _; omega) rfl rfl (fun a' U hw => hwords U hw a' _ q522) blind_Pc ?_
    intro s' m' a bl meth' c' hn hm hb' hl' hr' hk' hw' hPc
    obtain ⟨rfl, hKn, hMem⟩ := hPc
    have hle := lv_entry [Value.ref b, .int v] (n := 2) (Nat.le_of_ble_eq_true rfl)
    rw [lg_entry_eq]
    exact hWlk p e s' m' bl meth' c' ⟨B.1, hb', hl', findClass_of_methodNamed hn, hwords s' hw' _, hk', hKn⟩ hr' (name_of_methodNamed hn hm).1 _ hle ⟨hMem, fun l h => by cases h⟩
  have hKs := B.kn
  have al := hKs.2.alike
  have good : ∀ {w : Cond}, w ∈ flatC (Jvm.Cond.and given_1 narrow_1) → (w.onTables && w.keeps) = true → w.before args s = true := fun hw hg => by
    obtain ⟨A, hA⟩ := hKs.nar hw
    exact word_at hKs.2 (Or.inl hg) hA
  have hlink : (Cond.methodLink "LevelCellars$Cellar" 47 xAbove).before args s = true := good (by decide +kernel) rfl
  have hsame : (Cond.sameMethod xAbove.cls "LevelCellars$Stands" xAbove.name xAbove.desc).before args s = true := good (by decide +kernel) rfl
  obtain ⟨A1, hl1⟩ := hKs.nar (nar_lands hkd hrc)
  obtain ⟨A2, hs2⟩ := hKs.nar (w := Cond.sameMethod xAbove.cls "LevelCellars$Stands" xAbove.name xAbove.desc) (by decide +kernel)
  obtain ⟨c2, r2, m2, rm, w1, w2, w3, w4, w5, ⟨mk2, hmk2, hitf⟩, w7⟩ := lands_spec hl1
  obtain ⟨cn, ck, r1, hcn, hck, hni, hf1, hn1⟩ := Cond.sameMethod_found hs2
  have e1 : r1 = m2 := Option.some.inj (hn1.symm.trans w3)
  have e2 : r2 = m2 := (Option.some.inj (w2.symm.trans hf1)).trans e1
  subst e2
  obtain ⟨mk, methM, hnamed, hmethM, hstM, habM⟩ := Cond.instanceMethod_spec (B.ts _ q520)
  have hnm : s.methodNamed? yX17_above = G.2.2.methodNamed? yX17_above := State.methodNamed?_setVm (s := G.2.2) (vm' := s.vm) al yX17_above
  have hmm : mk = r2 := Option.some.inj (hnamed.symm.trans (hnm.trans w3))
  subst hmm
  have hm2 : s.vm.method? mk = some rm := by rw [al.method?]; exact w4
  cases hmethM.symm.trans hm2
  obtain ⟨mk3, hmk3, hem⟩ := al.2.2 _ _ hmk2
  obtain ⟨cell, hc1, hc2, hc3⟩ := hM.recv B hb hrc
  have hcls : c2 = cell.cls := by
    have : s.vm.findClass rc.1 = some c2 := by rw [al.findClass]; exact w1
    exact Option.some.inj (this.symm.trans hc3)
  subst hcls
  have hnear : nearD s.vm cell.cls rm.name rm.desc mk := by
    unfold nearD
    rw [nearAlike al]
    exact w7
  obtain ⟨methM', cM, hmM', -, -, -, -, -, -, hsigM⟩ := Cond.code_spec hnamed (B.ts _ q522)
  cases hmethM.symm.trans hmM'
  intro T hT X
  have hlen : [Value.int v].length = rm.sig.parameters.length := by
    have : parseMethodDescriptor "(I)I" = some rm.sig := hsigM
    have h2 : (parseMethodDescriptor "(I)I").map (fun d => d.parameters.length) = some 1 := by decide +kernel
    rw [this] at h2
    exact (Option.some.inj h2).symm
  obtain ⟨vm1, X1, hstep⟩ := stepVD X B.1 (own := "LevelCellars$Cellar") (owner := "LevelCellars$Stands") (index := 47) (x := xAbove) B.2.2.2.1 hlink hsame (by decide) (r0 := mk) (r := rm) hnamed hmethM hstM (a := b) (cell := cell) (by rw [hT]; exact hc1) (fun z h => by rw [h] at hc2; cases hc2)
    (m' := mk) (mm := rm) (mk := mk3) (by rw [Launch.admits_selectMethod X.admits, al.selectMethod]; exact w5) hmethM habM hmk3 (by rw [hem]; exact hitf) hnear (g := F0 m pc ls (.int v :: .ref b :: rest)) rfl (As := [.int v]) (rest := rest) hlen rfl (by rw [B.2.1]; exact hdg)
  obtain ⟨v', B', X', hpost, hsteps⟩ := hK m meth c ⟨T.setVm vm1, locs, cells, slots⟩ { F0 m pc ls (.int v :: .ref b :: rest) with stack := rest } (.invokevirtual 47) mk [.ref b, .int v].toArray X1 rfl (hl.trans B.2.2.1.symm) (by rw [B.2.1]; exact hdg) (lv_room hW) (X1.named hnamed) ⟨hf.1, hf.2, rfl, hKs.warm X1.warmed, by show Mem G th rh ph ka T.heap; rw [hT]; exact hM.1⟩
  obtain ⟨g', mk', t, L, e1, e2, hq, h1, hL, h2, h3⟩ := hpost
  obtain ⟨U', l2, c2', s2'⟩ := B'
  dsimp only [Pt.U, Pt.locs, Pt.cells, Pt.slots] at X' e1 e2 h1 h2 h3 hsteps
  subst h1; subst h2; subst h3
  exact ⟨v', (T.setVm vm1).calling g' mk' [.ref b, .int v].toArray, t, U', L, hT, X', hL, e1, e2, hq, fun target h => hstep _ fun acts => by rw [doInvoke_state]; exact hsteps.trans h⟩
end RD
