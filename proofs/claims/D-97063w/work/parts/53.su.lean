/-! SUPER's methods; whatever is run of a virtual method -/
set_option maxRecDepth 100000
def CalX (own owner : String) (x y : MethodName) (b : ByteArray) (L : Nat) (r : Option FieldType) (n : Nat) : Prop :=
  Cond.sameMethod x.cls owner x.name x.desc ∈ lw_all ∧ y = ⟨owner, x.name, x.desc⟩ ∧ Cond.superclass own x.cls ∈ lw_all ∧ (x.cls = owner ∨ Cond.superclass x.cls owner ∈ lw_all) ∧ Cond.instanceMethod y ∈ lw_all ∧ Cond.initialized y.cls ∈ lw_all ∧ Cond.code y b L r ∈ lw_all ∧ x.name ≠ "<init>" ∧ (parseMethodDescriptor x.desc).map (fun d => d.parameters.length) = some n
section RX
variable {p : Program} {l : Launch} {e : Env} {R : Room} {s : State} {m : MethodId} {args : Array Value} {below : List Frame} {meth : Method} {c : Code} {H : Heap} {locs : List Loc} {cells slots : Nat} {Q : State → Prop}
variable {cc : ByteArray} {nL pc : Nat} {own : String} {ls : Array Slot} {rest : List Value} {G : GG} {th : Th} {rh : Rh} {ph : Ph} {ka : Ka}
variable {x y : MethodName} {bytes : ByteArray} {maxL mc ms n index d : Nat} {ret : Option FieldType} {Qc : Array Value → State → Outcome → State → Prop} {b : Addr} {As : List Value} {owner : String}
theorem r_X (B : Cx G p s m args meth c cc nL own) (hM : Md G th rh ph ka H locs) {pl ci : Nat} {r : vw_C} (hb : th b = some (pl, .inl ci)) (hc : gCl[ci]? = some r) (hMet : Met l y (ws_ y bytes maxL ret) (RM d mc ms) (Pc_ G (.ref b :: As) th rh ph ka) Qc mc ms (frG G)) (cv : CalX own owner x y bytes maxL ret n) (q : Cond.methodLink own index x ∈ lw_all) (hn : As.length = n) (hl : ls.size = nL) (hW : (rest.map fun v => v.category).sum ≤ 8) (hdg : decode cc pc = .ok (.invokespecial index, 3)) (hR : d + 1 ≤ R.frames ∧ 19 + maxL + 64 * d ≤ R.locals) (hf : cells + mc ≤ R.cells ∧ slots + ms ≤ R.slots) :
    va_Run p l e R s m args below meth c H locs cells slots mc ms (F0 m pc ls (As.reverse ++ .ref b :: rest)) rest (Qc (Value.ref b :: As).toArray) (frG G) := by
  obtain ⟨h1, h2, h3, h4, h5, h6, h7, h8, h9⟩ := cv
  have hpre := hM.pre B (av := .ref b :: As)
  have hK : Back l R p e below s args y 3 8 (PreOf R mc ms (Pc_ G (.ref b :: As) th rh ph ka)) (PostOf Qc mc ms (frG G)) := back_of (bytes := bytes) (maxL := maxL) (ret := ret) hMet hpre.1 rfl rfl hR.1 (by show 8 + (maxL + 11) + 64 * d ≤ _; omega) (pay_in B.ts (lw_meth h7)) List.mem_cons_self (fun a' U hw => word_at hw (lw_self _ h6).2 (B.ts _ h6))
  obtain ⟨cell, hc1, hc2, hc3⟩ := hM.recv B hb hc
  obtain ⟨kB, hkB, -⟩ := (B.kn.K.1 ci r hc).2.2
  have hcl : G.1.1 ci = cell.cls := Option.some.inj ((B.kn.K.1 ci r hc).2.1.symm.trans hc3)
  rw [hcl] at hkB
  obtain ⟨mk, methM, hnamed, hmethM, hstM, habM⟩ := Cond.instanceMethod_spec (B.ts _ h5)
  obtain ⟨methM', cM, hmethM', -, -, -, -, -, -, hsigM⟩ := Cond.code_spec hnamed (B.ts _ h7)
  cases hmethM.symm.trans hmethM'
  obtain ⟨ps, dk, kp, hps, hdk, hkp, hsuper, -, -, hnid⟩ := Cond.superclass_spec B.2.2.2.1 (B.ts _ h3)
  have hn' : s.methodNamed? ⟨owner, x.name, x.desc⟩ = some mk := by rw [← h2]; exact hnamed
  have hsub : s.vm.isSubclass ps mk.cls = true := by
    have hm : s.vm.findClass owner = some mk.cls := findClass_of_methodNamed hn'
    rcases h4 with h4 | h4
    · rw [h4] at hps
      rw [Option.some.inj (hps.symm.trans hm)]
      simp [Vm.isSubclass, Vm.isSubclassAux]
    · obtain ⟨ps2, dk2, kp2, hps2, hdk2, hkp2, hsuper2, -, -, -⟩ := Cond.superclass_spec hps (B.ts _ h4)
      rw [Option.some.inj (hm.symm.trans hps2)]
      have hz : s.vm.classes.size = (s.vm.classes.size - 1) + 1 := by
        have := (Array.getElem?_eq_some_iff.mp hdk2).1
        omega
      unfold Vm.isSubclass
      rw [hz]
      simp [Vm.isSubclassAux, hdk2, hsuper2]
  intro T hT X
  have hlen : As.length = methM.sig.parameters.length := by
    rw [h2] at hsigM
    rw [show parseMethodDescriptor x.desc = some methM.sig from hsigM] at h9
    exact hn.trans (Option.some.inj h9).symm
  obtain ⟨vm1, X1, hstep⟩ := X.invokespecialUp B.1 B.2.2.2.1 (B.ts _ q) (B.ts _ h1) hn' hmethM hstM habM h8 hdk hnid hps hsuper hsub (a := b) (cell := cell) (by rw [hT]; exact hc1) (fun z h => by rw [h] at hc2; cases hc2) hkB (g := F0 m pc ls (As.reverse ++ .ref b :: rest)) rfl (argsL := As) (rest := rest) hlen rfl (by rw [B.2.1]; exact hdg)
  obtain ⟨v', B', X', hpost, hsteps⟩ := hK m meth c ⟨T.setVm vm1, locs, cells, slots⟩ { F0 m pc ls (As.reverse ++ .ref b :: rest) with stack := rest } (.invokespecial index) mk (Value.ref b :: As).toArray X1 rfl (hl.trans B.2.2.1.symm) (by rw [B.2.1]; exact hdg) (lv_room hW) (X1.named hnamed) ⟨hf.1, hf.2, rfl, B.kn.warm X1.warmed, by show Mem G th rh ph ka T.heap; rw [hT]; exact hM.1⟩
  obtain ⟨g', mk', t, L, e1, e2, hq, h1, hL, h2, h3⟩ := hpost
  obtain ⟨U', l2, c2', s2'⟩ := B'
  dsimp only [Pt.U, Pt.locs, Pt.cells, Pt.slots] at X' e1 e2 h1 h2 h3 hsteps
  subst h1; subst h2; subst h3
  exact ⟨v', (T.setVm vm1).calling g' mk' (Value.ref b :: As).toArray, t, U', L, hT, X', hL, e1, e2, hq, fun target h => hstep _ (by rw [doInvoke_state]; exact hsteps.trans h)⟩
/-- whatever is run: a virtual method of an object, by its contract -/
def VirtAt (l : Launch) (G : GG) (x : MethodName) (b : Nat) (As : List Value) (ret : Option FieldType) (n d mc ms : Nat) (th : Th) (rh : Rh) (ph : Ph) (ka : Ka) (Qc : Array Value → State → Outcome → State → Prop) : Prop :=
  ∃ (y : MethodName) (bytes : ByteArray) (maxL pl ci : Nat) (r : vw_C) (owner : String), th b = some (pl, .inl ci) ∧ gCl[ci]? = some r ∧ CalU r.1 owner x y bytes maxL ret n ∧ maxL ≤ 8 ∧ Met l y (ws_ y bytes maxL ret) (RM d mc ms) (Pc_ G (.ref b :: As) th rh ph ka) Qc mc ms (frG G)
theorem r_VA (B : Cx G p s m args meth c cc nL own) (hM : Md G th rh ph ka H locs) (hv : VirtAt l G x b As ret n d mc ms th rh ph ka Qc) (q : Cond.methodLink own index x ∈ lw_all) (hn : As.length = n) (hl : ls.size = nL) (hW : (rest.map fun v => v.category).sum ≤ 8) (hdg : decode cc pc = .ok (.invokevirtual index, 3)) (hR : d + 1 ≤ R.frames ∧ 27 + 64 * d ≤ R.locals) (hf : cells + mc ≤ R.cells ∧ slots + ms ≤ R.slots) :
    va_Run p l e R s m args below meth c H locs cells slots mc ms (F0 m pc ls (As.reverse ++ .ref b :: rest)) rest (Qc (Value.ref b :: As).toArray) (frG G) := by
  obtain ⟨y, bytes, maxL, pl, ci, r, owner, h1, h2, h3, h4, h5⟩ := hv
  exact r_U B hM h1 h2 h5 h3 q hn hl hW hdg ⟨hR.1, by omega⟩ hf
def FaceAt (l : Launch) (G : GG) (x : MethodName) (b : Nat) (As : List Value) (ret : Option FieldType) (n d mc ms : Nat) (th : Th) (rh : Rh) (ph : Ph) (ka : Ka) (Qc : Array Value → State → Outcome → State → Prop) : Prop :=
  ∃ (y : MethodName) (bytes : ByteArray) (maxL pl ci : Nat) (r : vw_C), th b = some (pl, .inl ci) ∧ gCl[ci]? = some r ∧ CalF r.1 x y bytes maxL ret n ∧ maxL ≤ 8 ∧ Met l y (ws_ y bytes maxL ret) (RM d mc ms) (Pc_ G (.ref b :: As) th rh ph ka) Qc mc ms (frG G)
theorem r_FA (B : Cx G p s m args meth c cc nL own) (hM : Md G th rh ph ka H locs) {count : Nat} (hv : FaceAt l G x b As ret n d mc ms th rh ph ka Qc) (q : Cond.methodLink own index x ∈ lw_all) (hn : As.length = n) (hl : ls.size = nL) (hW : (rest.map fun v => v.category).sum ≤ 8) (hdg : decode cc pc = .ok (.invokeinterface index count, 5)) (hR : d + 1 ≤ R.frames ∧ 27 + 64 * d ≤ R.locals) (hf : cells + mc ≤ R.cells ∧ slots + ms ≤ R.slots) :
    va_Run5 p l e R s m args below meth c H locs cells slots mc ms (F0 m pc ls (As.reverse ++ .ref b :: rest)) rest (Qc (Value.ref b :: As).toArray) (frG G) := by
  obtain ⟨y, bytes, maxL, pl, ci, r, h1, h2, h3, h4, h5⟩ := hv
  exact r_F B hM h1 h2 h5 h3 q hn hl hW hdg ⟨hR.1, by omega⟩ hf
end RX
/-- more room does no harm -/
theorem room_le {s : State} {pl : Platform} {d e mc ms : Nat} (h : s.hasRoom pl (RM e mc ms) = true) (hde : d ≤ e) : s.hasRoom pl (RM d mc ms) = true := by
  unfold State.hasRoom RM at h ⊢
  rw [Bool.and_eq_true, Bool.and_eq_true, Bool.and_eq_true, Bool.and_eq_true] at h ⊢
  have h1 := of_decide_eq_true h.1.1.1.1
  have h2 := of_decide_eq_true h.1.1.1.2
  dsimp only at h1 h2
  exact ⟨⟨⟨⟨decide_eq_true (by dsimp only; omega), decide_eq_true ⟨by dsimp only; omega, by dsimp only; omega, by dsimp only; omega, by dsimp only; omega, h2.2.2.2.2⟩⟩, h.1.1.2⟩, h.1.2⟩, h.2⟩
theorem Met.more {l : Launch} {y : MethodName} {ws : List Cond} {d e mc ms : Nat} {Pc : Array Value → State → Prop} {Qc : Array Value → State → Outcome → State → Prop} {free : Addr → Prop} (h : Met l y ws (RM d mc ms) Pc Qc mc ms free) (hde : d ≤ e) : Met l y ws (RM e mc ms) Pc Qc mc ms free := by
  intro p en ha hc hk s m args below hf happ hP hK
  refine h p en ha hc hk s m args below hf ?_ hP hK
  obtain ⟨h1, h2, h3, h4, h5, h6, h7, h8⟩ := (Spec.appliesLoose_iff hf).mp happ
  exact (Spec.appliesLoose_iff hf).mpr ⟨h1, h2, h3, h4, h5, h6, room_le h7 hde, h8⟩
