/-! NEW CELLARS: a constructor writes a field that the world doesn't know (its own this$0), into a cell that has room for it -/
set_option maxRecDepth 100000
def HasSz (H : Heap) (a n : Nat) : Prop := ∃ cell : Cell, H[a]? = some cell ∧ cell.slots.size = n
def Pc2 (G : GG) (b n : Nat) (av : List Value) (th : Th) (rh : Rh) (ph : Ph) (ka : Ka) : Array Value → State → Prop := fun v U => Pc_ G av th rh ph ka v U ∧ HasSz U.heap b n
theorem blind_Pc2 {G : GG} {b n : Nat} {av : List Value} {th : Th} {rh : Rh} {ph : Ph} {ka : Ka} : FrameBlind (Pc2 G b n av th rh ph ka) := fun a U g mk h => ⟨blind_Pc a U g mk h.1, h.2⟩
section RZ
variable {p : Program} {l : Launch} {e : Env} {R : Room} {s : State} {m : MethodId} {args : Array Value} {below : List Frame} {meth : Method} {c : Code} {H : Heap} {locs : List Loc} {cells slots : Nat} {Q : State → Prop}
variable {cc : ByteArray} {nL pc : Nat} {own : String} {ls : Array Slot} {rest : List Value} {G : GG} {th : Th} {rh : Rh} {ph : Ph} {ka : Ka}
theorem r_newS (B : Cx G p s m args meth c cc nL own) (hM : Md G th rh ph ka H locs) {ci n index : Nat} {C : String} {T : u_T} {N : Nat} (hc : gCl[ci]? = some (C, T, N)) (hd : ∀ ty : Nat → FieldType, (∀ k, k < N → parseFieldDescriptor (T k).2.2.1 = some (ty k)) → ∀ k, k < N → defaultValue (ty k) = gV ci (fun _ => 0) (fun _ => none) k) (q1 : Cond.classLink own index C ∈ lw_all) (q2 : Cond.instantiable C n ∈ lw_all) (q3 : Cond.initialized C ∈ lw_all) (hcells : cells + 1 ≤ R.cells) (hslots : slots + n ≤ R.slots) (hdg : decode cc pc = .ok (.new index, 3))
    (kk : ∀ (a : Nat) (H : Heap), th a = none → (∀ (b : Nat) (s' : Sh), ¬ th b = some (10000 + a, s')) → HasSz H a n → Md G (va_up th a (some (10000 + a, .inl ci))) (up1 rh (10000 + a) (fun _ => none)) ph (up1 ka (10000 + a) (fun _ => 0)) H locs → W p l e R s m args below meth c H locs (cells + 1) (slots + n) Q (F0 m (pc + 3) ls (.ref a :: rest))) : W p l e R s m args below meth c H locs cells slots Q (F0 m pc ls rest) := by
  obtain ⟨hex, hb, hml, hown, hts, hlk, hKn⟩ := B
  have hK1 := hKn.K.1 ci _ hc
  obtain ⟨ty, ht1, ht2⟩ := gTy hc
  refine W.newcK hex hb hown (hts _ q1) (hts _ q2) (hts _ q3) rfl hdg hcells hslots hK1.2.1 rfl fun H1 kC hkC e1 z1 o1 => ?_
  obtain ⟨c2, k2, i1, i2, -, -, -, i6⟩ := Cond.instantiable_spec (hts _ q2)
  cases hK1.2.1.symm.trans i1
  cases hkC.symm.trans i2
  refine kk H.size H1 hM.1.fresh (fun b s' => hM.1.freshP) ⟨_, e1, by simp [blank, i6]⟩ ⟨hM.1.alloc (sh := .inl ci) (fun q hq => ⟨up1_a _ _ hq, up1_a _ _ hq, rfl⟩) ?_ z1 o1, hM.2⟩
  rw [up1_s, up1_s]
  exact ⟨_, hc, (u_born ty hts (gIn hc) hK1 hkC e1 ht1).to (hd ty ht1)⟩
theorem r_putX (B : Cx G p s m args meth c cc nL own) (hM : Md G th rh ph ka H locs) (hin2 : meth.name = "<init>") {a b pl kd n index : Nat} {rc : vw_C} (ha : th a = some (pl, .inl (4 + kd))) (hkd : kd ≤ 5) (hc : gCl[4 + kd]? = some rc) (hsz : HasSz H a n) (hins : Cond.instantiable rc.1 n ∈ lw_all) (hlay : Cond.laysFinal rc.1 own "this$0" "LLevelCellars;" ∈ lw_all) (q : Cond.fieldLink own index own "this$0" "LLevelCellars;" ∈ lw_all) (hdg : decode cc pc = .ok (.putfield index, 3))
    (kk : ∀ (w : Option Nat) (rh1 : Rh) (H : Heap) (locs : List Loc), rh1 = up2 rh pl 3 w → HasSz H a n → Md G th rh1 ph ka H locs → W p l e R s m args below meth c H locs cells slots Q (F0 m (pc + 3) ls rest)) : W p l e R s m args below meth c H locs cells slots Q (F0 m pc ls (.ref b :: .ref a :: rest)) := by
  obtain ⟨hx, hb, hml, hown, hts, hlk, hKn⟩ := B
  obtain ⟨r', h1, cell, q1, q2, q3, q4⟩ := (hM.1.1 a pl _ ha).2.1
  cases h1.symm.trans hc
  obtain ⟨rc', hrc, hN, t0, t1, t2, t3, g0, g1, g2, g3, -⟩ := gC4 hkd
  cases hrc.symm.trans hc
  obtain ⟨hS, hfc, kC, hkC, hkind⟩ := hKn.K.1 (4 + kd) _ hc
  have hl := hts _ hlay
  obtain ⟨c1, k1, c', k', i, fd, f1, f2, f3, f4, f5, f6, f7, f8, f9⟩ := Cond.laysFinal_spec hl
  have hd : parseFieldDescriptor "LLevelCellars;" = some (.object "LevelCellars") := by decide +kernel
  have h6 := u_fits (v := .ref b) hfc hkC hkind (Or.inr hl) f3 hd rfl rfl
  obtain ⟨cell', s1, s2⟩ := hsz
  cases q1.symm.trans s1
  obtain ⟨c2, k2, i1, i2, -, -, -, i6⟩ := Cond.instantiable_spec (hts _ hins)
  cases hfc.symm.trans i1
  cases hkC.symm.trans i2
  have hslot : fd.slot < cell.slots.size := by
    rw [s2, ← i6]
    exact (Array.getElem?_eq_some_iff.mp (u_facts hfc hkC (Or.inr hl) f3).2.2).1
  refine W.putFinK hx hb hown (hts _ q) f3 f4 (Option.some.inj (hown.symm.trans f7)) hin2 (by rw [q2]; exact h6) q1 q3 hslot rfl rfl hdg fun H' e1 e2 e3 => ?_
  have hne : ∀ k, k < 3 → (G.1.2 (4 + kd)) k ≠ fd.slot := by
    intro k hk
    obtain ⟨ty, hty, -⟩ := gTy hc
    obtain ⟨_, _, _, fa, hia, ea⟩ := hS k (by rw [hN]; omega)
    rw [← ea]
    refine u_apart (u_lays hts (gIn hc) (by rw [hN]; omega)) (Or.inr hl) hia f3 ?_
    rw [(State.fieldFound?_type hia (hty k (by rw [hN]; omega))).1, (State.fieldFound?_type f3 hd).1]
    rcases (show k = 0 ∨ k = 1 ∨ k = 2 by omega) with rfl | rfl | rfl
    · rw [t0]; decide
    · rw [t1]; decide
    · rw [t2]; decide
  have key : ∃ w : Option Nat, ∀ k, k < rc.2.2 → (cell.setSlot fd.slot (.ref b)).slots[(G.1.2 (4 + kd)) k]? = some (gV (4 + kd) (ka pl) (up2 rh pl 3 w pl) k) := by
    by_cases hs : (G.1.2 (4 + kd)) 3 = fd.slot
    · refine ⟨some b, fun k hk => ?_⟩
      rw [hN] at hk
      by_cases e3' : k = 3
      · subst e3'
        rw [hs, Cell.slots_setSlot_self _ hslot, gV_r g3, up2_s]
        rfl
      · rw [Cell.slots_setSlot_ne _ (Ne.symm (hne k (by omega))), q4 k (by rw [hN]; omega)]
        unfold gV
        rw [up2_i _ _ _ _ e3']
    · refine ⟨rh pl 3, fun k hk => ?_⟩
      have e4 : up2 rh pl 3 (rh pl 3) pl = rh pl := by
        funext z
        by_cases ez : z = 3
        · subst ez; rw [up2_s]
        · rw [up2_i _ _ _ _ ez]
      rw [hN] at hk
      rw [e4, Cell.slots_setSlot_ne _ (by
        by_cases e3' : k = 3
        · subst e3'; exact Ne.symm hs
        · exact Ne.symm (hne k (by omega)))]
      exact q4 k (by rw [hN]; omega)
  obtain ⟨w, hw⟩ := key
  refine kk w _ H' _ rfl ⟨_, e1, by simpa [Cell.setSlot] using s2⟩ ⟨hM.1.write ha (fun q hq => ⟨rfl, up2_a _ _ _ hq, rfl⟩) ⟨rc, hc, _, e1, q2, q3, hw⟩ e2 e3, Md.lcs hM.2 (hM.1.old ha)⟩
/-- a constructor's call whose contract asks for the cell's room -/
theorem r_I2 {y : MethodName} {bytes : ByteArray} {maxL mc ms n index d nz : Nat} {Qc : Array Value → State → Outcome → State → Prop} {b : Addr} {As : List Value} (B : Cx G p s m args meth c cc nL own) (hM : Md G th rh ph ka H locs) (hz : HasSz H b nz) (hMet : Met l y (ws_ y bytes maxL none) (RM d mc ms) (Pc2 G b nz (.ref b :: As) th rh ph ka) Qc mc ms (frG G)) (cv : CalI y bytes maxL n) (q : Cond.methodLink own index y ∈ lw_all) (hn : As.length = n) (hl : ls.size = nL) (hW : (rest.map fun v => v.category).sum ≤ 8) (hdg : decode cc pc = .ok (.invokespecial index, 3)) (hR : d + 1 ≤ R.frames ∧ 19 + maxL + 64 * d ≤ R.locals) (hf : cells + mc ≤ R.cells ∧ slots + ms ≤ R.slots) :
    va_Run p l e R s m args below meth c H locs cells slots mc ms (F0 m pc ls (As.reverse ++ .ref b :: rest)) rest (Qc (Value.ref b :: As).toArray) (frG G) := by
  obtain ⟨h2, h3, h4, h6, h5⟩ := cv
  exact va_runI (As := As) (rest := rest) B.fix hMet (cwI n B.ts (lw_meth h4) rfl rfl rfl (B.ts _ h3) (B.ts _ q) (B.ts _ h2) h6 h5 ⟨hR.1, by show 8 + (maxL + 11) + 64 * d ≤ _; omega⟩) ⟨blind_Pc2, fun U hU hW => ⟨(hM.pre B (av := .ref b :: As)).2 U hU hW, by rw [hU]; exact hz⟩⟩ rfl hn hl rfl (lv_room hW) hdg hf
theorem r_IN2 {y : MethodName} {bytes : ByteArray} {maxL mc ms n index d nz : Nat} {Qc : Array Value → State → Outcome → State → Prop} {b : Addr} {As : List Value} {host : String} (B : Cx G p s m args meth c cc nL own) (hM : Md G th rh ph ka H locs) (hz : HasSz H b nz) (hMet : Met l y (ws_ y bytes maxL none) (RM d mc ms) (Pc2 G b nz (.ref b :: As) th rh ph ka) Qc mc ms (frG G)) (cv : CalI y bytes maxL n) (q : Cond.methodLinkNest own index y host ∈ lw_tbl) (hn : As.length = n) (hl : ls.size = nL) (hW : (rest.map fun v => v.category).sum ≤ 8) (hdg : decode cc pc = .ok (.invokespecial index, 3)) (hR : d + 1 ≤ R.frames ∧ 19 + maxL + 64 * d ≤ R.locals) (hf : cells + mc ≤ R.cells ∧ slots + ms ≤ R.slots) :
    va_Run p l e R s m args below meth c H locs cells slots mc ms (F0 m pc ls (As.reverse ++ .ref b :: rest)) rest (Qc (Value.ref b :: As).toArray) (frG G) := by
  obtain ⟨h2, h3, h4, h6, h5⟩ := cv
  exact va_runIN (As := As) (rest := rest) B.fix hMet ⟨va_cnB n B.ts (lw_meth h4) rfl rfl rfl (B.kn.nestM q) (B.ts _ h3) h5 ⟨hR.1, by show 8 + (maxL + 11) + 64 * d ≤ _; omega⟩, h6, B.ts _ h2⟩ ⟨blind_Pc2, fun U hU hW => ⟨(hM.pre B (av := .ref b :: As)).2 U hU hW, by rw [hU]; exact hz⟩⟩ rfl hn hl rfl (lv_room hW) hdg hf
/-- a method's contract out of the walk of its body, the cell having room -/
theorem m_of2 {y : MethodName} {maxL b nz : Nat} {ret : Option FieldType} {rm : Room} {av : List Value} {Qc : Array Value → State → Outcome → State → Prop} {mc ms : Nat} (hy : plainName y.cls = true) (hlen : (lg_sl av).length ≤ maxL)
    (body : ∀ (p : Program) (e : Env) (s : State) (m : MethodId) (below : List Frame) (meth : Method) (c : Code), Cx G p s m av.toArray meth c cc maxL y.cls → meth.sig.returnType = ret → meth.name = y.name → ∀ (ls : Array Slot), lv_has ls maxL (lv_args 0 av) → Md G th rh ph ka s.heap [] → HasSz s.heap b nz →
      W p l e rm s m av.toArray below meth c s.heap [] 0 0 (MQ below Qc av.toArray s mc ms (frG G)) (F0 m 0 ls [])) : Met l y (ws_ y cc maxL ret) rm (Pc2 G b nz av th rh ph ka) Qc mc ms (frG G) := by
  refine Met.ofW (cc := cc) (maxL := maxL) (ret := ret) hy rfl ?_
  intro p e s m args below meth c s₁ B hml hv
  obtain ⟨⟨rfl, hKn, hM⟩, hz⟩ := hv
  have hts := atoms_spec (ws := ws_ y cc maxL ret) B.pre
  have hts : ∀ w ∈ lw_all, w.before _ s = true := fun w h => hts w (List.mem_cons_of_mem _ h)
  have hl := lv_entry av (n := maxL) hlen
  rw [lg_entry_eq]
  exact body p e s m below meth c ⟨B.exec, B.bytes, hml, findClass_of_methodNamed B.named, hts, B.notSynchronized, hKn⟩ B.returns (name_of_methodNamed B.named B.method).1 _ hl ⟨hM, fun l h => by cases h⟩ hz
end RZ
/-- a new cellar lies at its own place, its wines too; all else is as it was -/
def NewC (x b w kd : Nat) (th : Th) (rh : Rh) (ph : Ph) (ka : Ka) (th' : Th) (rh' : Rh) (ph' : Ph) (ka' : Ka) : Prop :=
  th b = none ∧ th w = none ∧ b ≠ w ∧ th' = va_up (va_up th b (some (10000 + b, .inl (4 + kd)))) w (some (10000 + w, .inr (0, 3))) ∧ (∀ q, q ≠ 10000 + b → q ≠ 10000 + w → rh' q = rh q ∧ ph' q = ph q ∧ ka' q = ka q) ∧ rh' (10000 + b) 2 = some w ∧ rh' (10000 + b) 3 = some x ∧ ka' (10000 + b) = (fun _ => 0) ∧ ka' (10000 + w) = fun _ => 0
/-- a cellar's constructor: its wines come -/
def IniC (x b : Nat) (th : Th) (rh : Rh) (ph : Ph) (ka : Ka) (th' : Th) (rh' : Rh) (ph' : Ph) (ka' : Ka) : Prop :=
  ∃ w, th w = none ∧ (∀ s', ¬ ∃ c, th c = some (10000 + w, s')) ∧ th' = va_up th w (some (10000 + w, .inr (0, 3))) ∧ (∀ q, q ≠ 10000 + b → q ≠ 10000 + w → rh' q = rh q ∧ ph' q = ph q ∧ ka' q = ka q) ∧ rh' (10000 + b) 2 = some w ∧ rh' (10000 + b) 3 = some x ∧ ka' (10000 + b) = ka (10000 + b) ∧ ka' (10000 + w) = fun _ => 0
