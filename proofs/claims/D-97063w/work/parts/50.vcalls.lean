/-! CALLS through an object of a class below, through an interface -/
set_option maxRecDepth 100000
/-- what a call of x on an object of the class C asks of the tables, y being what is run -/
def CalU (C owner : String) (x y : MethodName) (b : ByteArray) (L : Nat) (r : Option FieldType) (n : Nat) : Prop :=
  Cond.sameMethod x.cls owner x.name x.desc ∈ lw_all ∧ Cond.instanceMethod ⟨owner, x.name, x.desc⟩ ∈ lw_all ∧ Cond.selects C x y ∈ lw_all ∧ Cond.instanceMethod y ∈ lw_all ∧ Cond.initialized y.cls ∈ lw_all ∧ (∃ b0 m0 r0, Cond.code ⟨owner, x.name, x.desc⟩ b0 m0 r0 ∈ lw_all) ∧ Cond.code y b L r ∈ lw_all ∧ (owner ≠ "java/lang/invoke/MethodHandle" ∧ owner ≠ "java/lang/invoke/VarHandle" ∧ (parseMethodDescriptor x.desc).map (fun d => d.parameters.length) = some n)
def CalF (C : String) (x y : MethodName) (b : ByteArray) (L : Nat) (r : Option FieldType) (n : Nat) : Prop :=
  Cond.declares x ∈ lw_tbl ∧ Cond.interfaceMethod x.cls x.cls x.name x.desc ∈ lw_tbl ∧ Cond.publicMethod y ∈ lw_tbl ∧ Cond.unhidden C x.name x.desc ∈ lw_tbl ∧ Cond.castable C x.cls ∈ lw_tbl ∧ Cond.selects C x y ∈ lw_all ∧ Cond.instanceMethod y ∈ lw_all ∧ Cond.initialized y.cls ∈ lw_all ∧ Cond.code y b L r ∈ lw_all ∧ okM x n
section RU
variable {p : Program} {l : Launch} {e : Env} {R : Room} {s : State} {m : MethodId} {args : Array Value} {below : List Frame} {meth : Method} {c : Code} {H : Heap} {locs : List Loc} {cells slots : Nat} {Q : State → Prop}
variable {cc : ByteArray} {nL pc : Nat} {own : String} {ls : Array Slot} {rest : List Value} {G : GG} {th : Th} {rh : Rh} {ph : Ph} {ka : Ka}
variable {x y : MethodName} {bytes : ByteArray} {maxL mc ms n index d : Nat} {ret : Option FieldType} {Qc : Array Value → State → Outcome → State → Prop} {b : Addr} {As : List Value} {owner : String}
theorem r_U (B : Cx G p s m args meth c cc nL own) (hM : Md G th rh ph ka H locs) {pl ci : Nat} {r : vw_C} (hb : th b = some (pl, .inl ci)) (hc : gCl[ci]? = some r) (hMet : Met l y (ws_ y bytes maxL ret) (RM d mc ms) (Pc_ G (.ref b :: As) th rh ph ka) Qc mc ms (frG G)) (cv : CalU r.1 owner x y bytes maxL ret n) (q : Cond.methodLink own index x ∈ lw_all) (hn : As.length = n) (hl : ls.size = nL) (hW : (rest.map fun v => v.category).sum ≤ 8) (hdg : decode cc pc = .ok (.invokevirtual index, 3)) (hR : d + 1 ≤ R.frames ∧ 19 + maxL + 64 * d ≤ R.locals) (hf : cells + mc ≤ R.cells ∧ slots + ms ≤ R.slots) :
    va_Run p l e R s m args below meth c H locs cells slots mc ms (F0 m pc ls (As.reverse ++ .ref b :: rest)) rest (Qc (Value.ref b :: As).toArray) (frG G) := by
  obtain ⟨h1, h2, h3, h4, h5, ⟨b0, m0, r0, h6⟩, h7, h8⟩ := cv
  refine va_runU (C := r.1) (x := x) (owner := owner) (As := As) (rest := rest) B.fix hMet (va_cwO n B.ts (lw_app (fun w hw => ?_) (lw_meth h7)) rfl rfl rfl h6 h8 ⟨hR.1, by show 8 + (maxL + 11) + 64 * d ≤ _; omega⟩) ⟨(hM.pre B (av := .ref b :: As)).1, hM.recv B hb hc, (hM.pre B (av := .ref b :: As)).2⟩ rfl hn hl rfl (lv_room hW) hdg hf
  simp only [List.mem_cons, List.not_mem_nil, or_false] at hw
  rcases hw with e | e | e | e | e | e
  · rw [e]; exact q
  · rw [e]; exact h1
  · rw [e]; exact h2
  · rw [e]; exact h3
  · rw [e]; exact h4
  · rw [e]; exact h5
theorem Kn.face {U : State} (h : Kn G U) {C : String} (hx : x.cls ≠ "java/lang/invoke/MethodHandle" ∧ x.cls ≠ "java/lang/invoke/VarHandle") (h1 : Cond.declares x ∈ lw_tbl) (h2 : Cond.interfaceMethod x.cls x.cls x.name x.desc ∈ lw_tbl) (h3 : Cond.publicMethod y ∈ lw_tbl) (h4 : Cond.unhidden C x.name x.desc ∈ lw_tbl) (h5 : Cond.castable C x.cls ∈ lw_tbl) : va_Fw C x y U := by
  obtain ⟨⟨⟨b0, hw0, -⟩, -⟩, hW0⟩ := h
  exact va_Fw.moved hx hW0.alike (va_Fw.of (hw0 _ h1) (hw0 _ h2) (hw0 _ h3) (hw0 _ h4) (hw0 _ h5))
theorem r_F (B : Cx G p s m args meth c cc nL own) (hM : Md G th rh ph ka H locs) {pl ci count : Nat} {r : vw_C} (hb : th b = some (pl, .inl ci)) (hc : gCl[ci]? = some r) (hMet : Met l y (ws_ y bytes maxL ret) (RM d mc ms) (Pc_ G (.ref b :: As) th rh ph ka) Qc mc ms (frG G)) (cv : CalF r.1 x y bytes maxL ret n) (q : Cond.methodLink own index x ∈ lw_all) (hn : As.length = n) (hl : ls.size = nL) (hW : (rest.map fun v => v.category).sum ≤ 8) (hdg : decode cc pc = .ok (.invokeinterface index count, 5)) (hR : d + 1 ≤ R.frames ∧ 19 + maxL + 64 * d ≤ R.locals) (hf : cells + mc ≤ R.cells ∧ slots + ms ≤ R.slots) :
    va_Run5 p l e R s m args below meth c H locs cells slots mc ms (F0 m pc ls (As.reverse ++ .ref b :: rest)) rest (Qc (Value.ref b :: As).toArray) (frG G) := by
  obtain ⟨h1, h2, h3, h4, h5, h6, h7, h8, h9, h10⟩ := cv
  refine va_runF (C := r.1) (x := x) (As := As) (rest := rest) (B.kn.K.1 ci _ hc).2 B.fix hMet (va_cwF n B.ts (lw_app (fun w hw => ?_) (lw_meth h9)) rfl rfl rfl (B.kn.face ⟨h10.1, h10.2.1⟩ h1 h2 h3 h4 h5) h10 ⟨hR.1, by show 8 + (maxL + 11) + 64 * d ≤ _; omega⟩) ⟨(hM.pre B (av := .ref b :: As)).1, hM.recv B hb hc, (hM.pre B (av := .ref b :: As)).2⟩ rfl hn hl rfl (lv_room hW) hdg hf
  simp only [List.mem_cons, List.not_mem_nil, or_false] at hw
  rcases hw with e | e | e | e
  · rw [e]; exact q
  · rw [e]; exact h6
  · rw [e]; exact h7
  · rw [e]; exact h8
variable {st0 : List Value} {a0 : Array Value}
theorem k_p5 {post : Int32 → Prop} (hr : va_Run5 p l e R s m args below meth c H locs cells slots mc ms (F0 m pc ls st0) rest (Qp G th rh ph ka post a0) (frG G)) (hM : Md G th rh ph ka H locs)
    (kk : ∀ (r : Int32) (H : Heap) (locs : List Loc), post r → Md G th rh ph ka H locs → W p l e R s m args below meth c H locs (cells + mc) (slots + ms) Q (F0 m (pc + 5) ls (.int r :: rest))) : W p l e R s m args below meth c H locs cells slots Q (F0 m pc ls st0) := by
  intro T hT X
  obtain ⟨v, st₀, t, T', L, h0, X', hL, e1, e2, ⟨r, hv, hp, hm⟩, st⟩ := hr T hT X
  cases hv
  obtain ⟨t2, a1, b1⟩ := kk r T'.heap (locs ++ L) hp (hM.after e1 hm hL) T' rfl X'
  exact ⟨t2, st t2 a1, b1⟩
theorem k_i5 {post : Int32 → Ka → Prop} (hr : va_Run5 p l e R s m args below meth c H locs cells slots mc ms (F0 m pc ls st0) rest (Qi G th rh ph post a0) (frG G)) (hM : Md G th rh ph ka H locs)
    (kk : ∀ (r : Int32) (ka : Ka) (H : Heap) (locs : List Loc), post r ka → Md G th rh ph ka H locs → W p l e R s m args below meth c H locs (cells + mc) (slots + ms) Q (F0 m (pc + 5) ls (.int r :: rest))) : W p l e R s m args below meth c H locs cells slots Q (F0 m pc ls st0) := by
  intro T hT X
  obtain ⟨v, st₀, t, T', L, h0, X', hL, e1, e2, ⟨r, ka', hv, hp, hm⟩, st⟩ := hr T hT X
  cases hv
  obtain ⟨t2, a1, b1⟩ := kk r ka' T'.heap (locs ++ L) hp (hM.after e1 hm hL) T' rfl X'
  exact ⟨t2, st t2 a1, b1⟩
end RU
