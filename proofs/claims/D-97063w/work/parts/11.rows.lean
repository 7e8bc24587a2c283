/-! ROWS: an instruction over the world -/
set_option maxRecDepth 100000
/-- what holds at the law's start -/
def Start (G : GG) : Prop := (∃ b : Addr, (∀ w ∈ lw_tbl, w.before #[Value.ref b] G.2.2 = true) ∧ (Jvm.Cond.and given_1 narrow_1).before #[Value.ref b] G.2.2 = true) ∧ modulesRight_1 G.2.2 = true ∧ va_K G.1 gCl (gTys G) G.2.2
/-- a state of the run: the tables are the start's, warmed -/
def Kn (G : GG) (U : State) : Prop := Start G ∧ G.2.2.WarmedH U.vm
theorem Kn.K {G : GG} {U : State} (h : Kn G U) : va_K G.1 gCl (gTys G) U := va_K.moved h.2.alike h.1.2.2
theorem Kn.warm {G : GG} {s U : State} (h : Kn G s) (hW : s.WarmedH U.vm) : Kn G U := ⟨h.1, State.WarmedH.trans h.2 hW⟩
/-- inside a method: machine, code, locals, own class, words, no lock, the run -/
def Cx (G : GG) (p : Program) (s : State) (m : MethodId) (args : Array Value) (meth : Method) (c : Code) (cc : ByteArray) (nL : Nat) (own : String) : Prop := p.tables.exec = Jvm.exec ∧ c.code = cc ∧ c.maxLocals = nL ∧ s.vm.findClass own = some m.cls ∧ (∀ w ∈ lw_all, w.before args s = true) ∧ meth.locks = false ∧ Kn G s
theorem gTy {ci : Nat} {r : vw_C} (h : gCl[ci]? = some r) : ∃ ty : Nat → FieldType, (∀ k, k < r.2.2 → parseFieldDescriptor (r.2.1 k).2.2.1 = some (ty k)) ∧ ∀ a, a < r.2.2 → ∀ b, b < r.2.2 → a ≠ b → (r.2.1 a).2.1 ≠ (r.2.1 b).2.1 := by
  match ci, h with
  | 0, h => cases h; exact ⟨tyX0, tyX0_ok, nmX0⟩
  | 1, h => cases h; exact ⟨tyX1, tyX1_ok, nmX1⟩
  | 2, h => cases h; exact ⟨tyX2, tyX2_ok, nmX2⟩
  | 3, h => cases h; exact ⟨tyX3, tyX3_ok, nmX3⟩
  | 4, h => cases h; exact ⟨tyX4, tyX4_ok, nmX4⟩
  | 5, h => cases h; exact ⟨tyX5, fun k hk => tyX5_ok k (Nat.lt_of_lt_of_le hk (by decide)), by decide +kernel⟩
  | 6, h => cases h; exact ⟨tyX6, fun k hk => tyX6_ok k (Nat.lt_of_lt_of_le hk (by decide)), by decide +kernel⟩
  | 7, h => cases h; exact ⟨tyX7, fun k hk => tyX7_ok k (Nat.lt_of_lt_of_le hk (by decide)), by decide +kernel⟩
  | 8, h => cases h; exact ⟨tyX8, fun k hk => tyX8_ok k (Nat.lt_of_lt_of_le hk (by decide)), by decide +kernel⟩
  | 9, h => cases h; exact ⟨tyX9, fun k hk => tyX9_ok k (Nat.lt_of_lt_of_le hk (by decide)), by decide +kernel⟩
  | 10, h => cases h; exact ⟨tyX10, tyX10_ok, nmX10⟩
  | 11, h => cases h; exact ⟨tyX11, tyX11_ok, nmX11⟩
  | 12, h => cases h; exact ⟨tyX12, tyX12_ok, nmX12⟩
  | 13, h => cases h; exact ⟨tyX13, tyX13_ok, nmX13⟩
  | 14, h => cases h; exact ⟨tyX14, tyX14_ok, nmX14⟩
  | 15, h => cases h; exact ⟨tyX15, tyX15_ok, nmX15⟩
  | 16, h => cases h; exact ⟨tyX16, tyX16_ok, nmX16⟩
  | k + 17, h => simp at h
section RR
variable {p : Program} {l : Launch} {e : Env} {R : Room} {s : State} {m : MethodId} {args : Array Value} {below : List Frame} {meth : Method} {c : Code} {H : Heap} {locs : List Loc} {cells slots : Nat} {Q : State → Prop}
variable {cc : ByteArray} {nL pc : Nat} {own : String} {ls : Array Slot} {rest : List Value} {G : GG} {th : Th} {rh rh' : Rh} {ph ph' : Ph} {ka ka' : Ka}
theorem gApart (hts : ∀ w ∈ lw_all, w.before args s = true) (hK : va_K G.1 gCl (gTys G) s) {ci : Nat} {r : vw_C} (hc : gCl[ci]? = some r) : ∀ x y, x < r.2.2 → y < r.2.2 → x ≠ y → (G.1.2 ci) x ≠ (G.1.2 ci) y := by
  obtain ⟨ty, h1, h2⟩ := gTy hc
  exact va_apart (own := "") hts (gIn hc) ty h1 h2 hK hc
/-- getfield, any value -/
theorem r_get (B : Cx G p s m args meth c cc nL own) (hM : Md G th rh ph ka H locs) {a pl ci index : Nat} (k : Nat) {r : vw_C} {O f d : String} {fin : Bool} {v : Value} (ha : th a = some (pl, .inl ci)) (hc : gCl[ci]? = some r) (hk : k < r.2.2) (hT : r.2.1 k = (O, f, d, fin)) (hv : gV ci (ka pl) (rh pl) k = v) (q : Cond.fieldLink own index O f d ∈ lw_all) (hdg : decode cc pc = .ok (.getfield index, 3))
    (kk : W p l e R s m args below meth c H locs cells slots Q (F0 m (pc + 3) ls (v :: rest))) : W p l e R s m args below meth c H locs cells slots Q (F0 m pc ls (.ref a :: rest)) := by
  obtain ⟨hx, hb, hml, hown, hts, hlk, hKn⟩ := B
  obtain ⟨r', h1, cell, q1, q2, q3, q4⟩ := (hM.1.1 a pl _ ha).2.1
  cases h1.symm.trans hc
  obtain ⟨hS, hfc, kC, hkC, hkind⟩ := hKn.K.1 ci _ hc
  obtain ⟨cf, kf, fi, fd, hi, hsl⟩ := hS k hk
  have hst := (u_facts hfc hkC (u_lays hts (gIn hc) hk) hi).1
  rw [hT] at hi
  refine W.getf hx hb hown (hts _ q) hi hst q1 (by rw [q3]; exact fun h => by cases h) (v := v) ?_ rfl rfl hdg kk
  rw [hsl, q4 k hk, hv]
/-- getfield of a nest mate's private field -/
theorem r_getN (B : Cx G p s m args meth c cc nL own) (hM : Md G th rh ph ka H locs) {a pl ci index : Nat} (k : Nat) {r : vw_C} {O f d host : String} {fin : Bool} {v : Value} (ha : th a = some (pl, .inl ci)) (hc : gCl[ci]? = some r) (hk : k < r.2.2) (hT : r.2.1 k = (O, f, d, fin)) (hv : gV ci (ka pl) (rh pl) k = v) (q : Cond.fieldLinkNest own index O f d host ∈ lw_tbl) (hdg : decode cc pc = .ok (.getfield index, 3))
    (kk : W p l e R s m args below meth c H locs cells slots Q (F0 m (pc + 3) ls (v :: rest))) : W p l e R s m args below meth c H locs cells slots Q (F0 m pc ls (.ref a :: rest)) := by
  obtain ⟨hx, hb, hml, hown, hts, hlk, hKn⟩ := B
  obtain ⟨r', h1, cell, q1, q2, q3, q4⟩ := (hM.1.1 a pl _ ha).2.1
  cases h1.symm.trans hc
  obtain ⟨hS, hfc, kC, hkC, hkind⟩ := hKn.K.1 ci _ hc
  obtain ⟨cf, kf, fi, fd, hi, hsl⟩ := hS k hk
  have hst := (u_facts hfc hkC (u_lays hts (gIn hc) hk) hi).1
  rw [hT] at hi
  obtain ⟨⟨⟨b0, hw0, -⟩, -⟩, hW0⟩ := hKn
  have hl : (Cond.fieldLinkNest own index O f d host).before args s = true := va_Nw.use rfl (va_Nw.warmF hW0 (va_Nw.of rfl (hw0 _ q)))
  refine va_Wgetf hx hb hown hl hi hst q1 (by rw [q3]; exact fun h => by cases h) (v := v) ?_ rfl rfl hdg kk
  rw [hsl, q4 k hk, hv]
/-- putfield, any value -/
theorem r_put (B : Cx G p s m args meth c cc nL own) (hM : Md G th rh ph ka H locs) {a pl ci index : Nat} (k : Nat) {r : vw_C} {O f d : String} {ty : FieldType} {v : Value} (ha : th a = some (pl, .inl ci)) (hc : gCl[ci]? = some r) (hk : k < r.2.2) (hT : r.2.1 k = (O, f, d, false)) (q : Cond.fieldLink own index O f d ∈ lw_all) (hd : parseFieldDescriptor d = some ty) (hn : narrow ty v = v) (hfit : fits ty v = true)
    (hu : ∀ j, updV (gV ci (ka pl) (rh pl)) k v j = gV ci (ka' pl) (rh' pl) j) (ho : ∀ q, q ≠ pl → ka' q = ka q ∧ rh' q = rh q) (hdg : decode cc pc = .ok (.putfield index, 3))
    (kk : ∀ (H1 : Heap) (locs1 : List Loc), Md G th rh' ph ka' H1 locs1 → W p l e R s m args below meth c H1 locs1 cells slots Q (F0 m (pc + 3) ls rest)) : W p l e R s m args below meth c H locs cells slots Q (F0 m pc ls (v :: .ref a :: rest)) := by
  obtain ⟨hx, hb, hml, hown, hts, hlk, hKn⟩ := B
  obtain ⟨r', h1, cell, q1, q2, q3, q4⟩ := (hM.1.1 a pl _ ha).2.1
  cases h1.symm.trans hc
  have hap := gApart hts hKn.K hc
  obtain ⟨hS, hfc, kC, hkC, hkind⟩ := hKn.K.1 ci _ hc
  obtain ⟨cf, kf, fi, fd, hi, hsl⟩ := hS k hk
  have hst := (u_facts hfc hkC (u_lays hts (gIn hc) hk) hi).1
  have hlay := hts _ (gIn hc _ (u_in_lay hk))
  unfold u_lay at hlay
  rw [hT] at hlay
  rw [if_neg Bool.false_ne_true] at hlay
  rw [hT] at hi
  have h6 := u_store hfc hkC hkind hlay hi hd hn hfit
  refine W.putK hx hb (f := fd) ⟨hown, hts _ q, ⟨_, _, _, hi⟩, hst⟩ (by rw [q2]; exact h6) q1 q3 (by rw [hsl]; exact k2_hasslot (q4 k hk)) rfl rfl hdg fun H' e1 e2 e3 => ?_
  rw [hsl] at e1 ⊢
  refine kk H' _ ⟨hM.1.write ha (fun q hq => ⟨(ho q hq).1, (ho q hq).2, rfl⟩) ⟨_, hc, t_OB.to (V := updV (gV ci (ka pl) (rh pl)) k v) ⟨_, e1, q2, q3, t_set q4 hap hk v⟩ (fun j _ => hu j)⟩ e2 e3, Md.lcs hM.2 (hM.1.old ha)⟩
/-- putfield of a final field in its own constructor -/
theorem r_putF (B : Cx G p s m args meth c cc nL own) (hM : Md G th rh ph ka H locs) (hin2 : meth.name = "<init>") {a pl ci index : Nat} (k : Nat) {r : vw_C} {f d : String} {ty : FieldType} {v : Value} (ha : th a = some (pl, .inl ci)) (hc : gCl[ci]? = some r) (hk : k < r.2.2) (hT : r.2.1 k = (own, f, d, true)) (q : Cond.fieldLink own index own f d ∈ lw_all) (hd : parseFieldDescriptor d = some ty) (hn : narrow ty v = v) (hfit : fits ty v = true)
    (hu : ∀ j, updV (gV ci (ka pl) (rh pl)) k v j = gV ci (ka' pl) (rh' pl) j) (ho : ∀ q, q ≠ pl → ka' q = ka q ∧ rh' q = rh q) (hdg : decode cc pc = .ok (.putfield index, 3))
    (kk : ∀ (H1 : Heap) (locs1 : List Loc), Md G th rh' ph ka' H1 locs1 → W p l e R s m args below meth c H1 locs1 cells slots Q (F0 m (pc + 3) ls rest)) : W p l e R s m args below meth c H locs cells slots Q (F0 m pc ls (v :: .ref a :: rest)) := by
  obtain ⟨hx, hb, hml, hown, hts, hlk, hKn⟩ := B
  obtain ⟨r', h1, cell, q1, q2, q3, q4⟩ := (hM.1.1 a pl _ ha).2.1
  cases h1.symm.trans hc
  have hap := gApart hts hKn.K hc
  obtain ⟨hS, hfc, kC, hkC, hkind⟩ := hKn.K.1 ci _ hc
  obtain ⟨cf, kf, fi, fd, hi, hsl⟩ := hS k hk
  have hst := (u_facts hfc hkC (u_lays hts (gIn hc) hk) hi).1
  have hlay := hts _ (gIn hc _ (u_in_lay hk))
  unfold u_lay at hlay
  rw [hT] at hlay
  rw [if_pos rfl] at hlay
  rw [hT] at hi
  have hcf : m.cls = cf := by
    obtain ⟨_, _, c', _, _, _, -, -, hf', -, -, -, hown2, -⟩ := Cond.laysFinal_spec hlay
    have e1 : c' = cf := by have := hi.symm.trans hf'; simp at this; exact this.1.symm
    rw [← e1]; exact Option.some.inj (hown.symm.trans hown2)
  have h6 := u_fits hfc hkC hkind (Or.inr hlay) hi hd hn hfit
  refine W.putFinK hx hb hown (hts _ q) hi hst hcf hin2 (by rw [q2]; exact h6) q1 q3 (by rw [hsl]; exact k2_hasslot (q4 k hk)) rfl rfl hdg fun H' e1 e2 e3 => ?_
  rw [hsl] at e1 ⊢
  refine kk H' _ ⟨hM.1.write ha (fun q hq => ⟨(ho q hq).1, (ho q hq).2, rfl⟩) ⟨_, hc, t_OB.to (V := updV (gV ci (ka pl) (rh pl)) k v) ⟨_, e1, q2, q3, t_set q4 hap hk v⟩ (fun j _ => hu j)⟩ e2 e3, Md.lcs hM.2 (hM.1.old ha)⟩
/-- an int field -/
theorem r_geti (B : Cx G p s m args meth c cc nL own) (hM : Md G th rh ph ka H locs) {a pl ci index : Nat} (k : Nat) {r : vw_C} {O f d : String} {fin : Bool} (ha : th a = some (pl, .inl ci)) (hc : gCl[ci]? = some r) (hk : k < r.2.2) (hT : r.2.1 k = (O, f, d, fin)) (hr : gR ci k = false) (q : Cond.fieldLink own index O f d ∈ lw_all) (hdg : decode cc pc = .ok (.getfield index, 3))
    (kk : W p l e R s m args below meth c H locs cells slots Q (F0 m (pc + 3) ls (.int (ka pl k) :: rest))) : W p l e R s m args below meth c H locs cells slots Q (F0 m pc ls (.ref a :: rest)) :=
  r_get B hM k ha hc hk hT (gV_i hr) q hdg kk
/-- a reference field that isn't null -/
theorem r_getq (B : Cx G p s m args meth c cc nL own) (hM : Md G th rh ph ka H locs) {a b pl ci index : Nat} (k : Nat) {r : vw_C} {O f d : String} {fin : Bool} (ha : th a = some (pl, .inl ci)) (hc : gCl[ci]? = some r) (hk : k < r.2.2) (hT : r.2.1 k = (O, f, d, fin)) (hr : gR ci k = true) (hv : rh pl k = some b) (q : Cond.fieldLink own index O f d ∈ lw_all) (hdg : decode cc pc = .ok (.getfield index, 3))
    (kk : W p l e R s m args below meth c H locs cells slots Q (F0 m (pc + 3) ls (.ref b :: rest))) : W p l e R s m args below meth c H locs cells slots Q (F0 m pc ls (.ref a :: rest)) :=
  r_get B hM k ha hc hk hT (by rw [gV_r hr, hv]; rfl) q hdg kk
theorem r_getqN (B : Cx G p s m args meth c cc nL own) (hM : Md G th rh ph ka H locs) {a b pl ci index : Nat} (k : Nat) {r : vw_C} {O f d host : String} {fin : Bool} (ha : th a = some (pl, .inl ci)) (hc : gCl[ci]? = some r) (hk : k < r.2.2) (hT : r.2.1 k = (O, f, d, fin)) (hr : gR ci k = true) (hv : rh pl k = some b) (q : Cond.fieldLinkNest own index O f d host ∈ lw_tbl) (hdg : decode cc pc = .ok (.getfield index, 3))
    (kk : W p l e R s m args below meth c H locs cells slots Q (F0 m (pc + 3) ls (.ref b :: rest))) : W p l e R s m args below meth c H locs cells slots Q (F0 m pc ls (.ref a :: rest)) :=
  r_getN B hM k ha hc hk hT (by rw [gV_r hr, hv]; rfl) q hdg kk
/-- an int field is written -/
theorem r_puti (B : Cx G p s m args meth c cc nL own) (hM : Md G th rh ph ka H locs) {a pl ci index : Nat} (k : Nat) {r : vw_C} {O f : String} {v : Int32} (ha : th a = some (pl, .inl ci)) (hc : gCl[ci]? = some r) (hk : k < r.2.2) (hT : r.2.1 k = (O, f, "I", false)) (hr : gR ci k = false) (q : Cond.fieldLink own index O f "I" ∈ lw_all) (hdg : decode cc pc = .ok (.putfield index, 3))
    (kk : ∀ (ka1 : Ka) (H : Heap) (locs : List Loc), ka1 = up2 ka pl k v → Md G th rh ph ka1 H locs → W p l e R s m args below meth c H locs cells slots Q (F0 m (pc + 3) ls rest)) : W p l e R s m args below meth c H locs cells slots Q (F0 m pc ls (.int v :: .ref a :: rest)) :=
  r_put (ty := .int) (ka' := up2 ka pl k v) (rh' := rh) B hM k ha hc hk hT q (by decide +kernel) rfl rfl (fun j => by rw [up2_row]; exact gV_ui hr j) (fun q hq => ⟨up2_a _ _ _ hq, rfl⟩) hdg (fun H locs h => kk _ H locs rfl h)
theorem r_putz (B : Cx G p s m args meth c cc nL own) (hM : Md G th rh ph ka H locs) {a pl ci index : Nat} (k : Nat) {r : vw_C} {O f : String} {v : Int32} (ha : th a = some (pl, .inl ci)) (hc : gCl[ci]? = some r) (hk : k < r.2.2) (hT : r.2.1 k = (O, f, "Z", false)) (hr : gR ci k = false) (hv : v = 0 ∨ v = 1) (q : Cond.fieldLink own index O f "Z" ∈ lw_all) (hdg : decode cc pc = .ok (.putfield index, 3))
    (kk : ∀ (ka1 : Ka) (H : Heap) (locs : List Loc), ka1 = up2 ka pl k v → Md G th rh ph ka1 H locs → W p l e R s m args below meth c H locs cells slots Q (F0 m (pc + 3) ls rest)) : W p l e R s m args below meth c H locs cells slots Q (F0 m pc ls (.int v :: .ref a :: rest)) :=
  r_put (ty := .boolean) (ka' := up2 ka pl k v) (rh' := rh) B hM k ha hc hk hT q (by decide +kernel) (by rcases hv with rfl | rfl <;> rfl) (by rcases hv with rfl | rfl <;> rfl) (fun j => by rw [up2_row]; exact gV_ui hr j) (fun q hq => ⟨up2_a _ _ _ hq, rfl⟩) hdg (fun H locs h => kk _ H locs rfl h)
/-- a reference field is written -/
theorem r_putq (B : Cx G p s m args meth c cc nL own) (hM : Md G th rh ph ka H locs) {a b pl ci index : Nat} (k : Nat) {r : vw_C} {O f d : String} {ty : FieldType} (ha : th a = some (pl, .inl ci)) (hc : gCl[ci]? = some r) (hk : k < r.2.2) (hT : r.2.1 k = (O, f, d, false)) (hr : gR ci k = true) (q : Cond.fieldLink own index O f d ∈ lw_all) (hd : parseFieldDescriptor d = some ty) (hn : narrow ty (.ref b) = .ref b) (hfit : fits ty (.ref b) = true) (hdg : decode cc pc = .ok (.putfield index, 3))
    (kk : ∀ (rh1 : Rh) (H : Heap) (locs : List Loc), rh1 = up2 rh pl k (some b) → Md G th rh1 ph ka H locs → W p l e R s m args below meth c H locs cells slots Q (F0 m (pc + 3) ls rest)) : W p l e R s m args below meth c H locs cells slots Q (F0 m pc ls (.ref b :: .ref a :: rest)) :=
  r_put (ty := ty) (ka' := ka) (rh' := up2 rh pl k (some b)) B hM k ha hc hk hT q hd hn hfit (fun j => by rw [up2_row]; exact gV_ur (v := some b) hr j) (fun q hq => ⟨rfl, up2_a _ _ _ hq⟩) hdg (fun H locs h => kk _ H locs rfl h)
theorem r_putn (B : Cx G p s m args meth c cc nL own) (hM : Md G th rh ph ka H locs) {a pl ci index : Nat} (k : Nat) {r : vw_C} {O f d : String} {ty : FieldType} (ha : th a = some (pl, .inl ci)) (hc : gCl[ci]? = some r) (hk : k < r.2.2) (hT : r.2.1 k = (O, f, d, false)) (hr : gR ci k = true) (q : Cond.fieldLink own index O f d ∈ lw_all) (hd : parseFieldDescriptor d = some ty) (hn : narrow ty .null = .null) (hfit : fits ty .null = true) (hdg : decode cc pc = .ok (.putfield index, 3))
    (kk : ∀ (rh1 : Rh) (H : Heap) (locs : List Loc), rh1 = up2 rh pl k none → Md G th rh1 ph ka H locs → W p l e R s m args below meth c H locs cells slots Q (F0 m (pc + 3) ls rest)) : W p l e R s m args below meth c H locs cells slots Q (F0 m pc ls (.null :: .ref a :: rest)) :=
  r_put (ty := ty) (ka' := ka) (rh' := up2 rh pl k none) B hM k ha hc hk hT q hd hn hfit (fun j => by rw [up2_row]; exact gV_ur (v := none) hr j) (fun q hq => ⟨rfl, up2_a _ _ _ hq⟩) hdg (fun H locs h => kk _ H locs rfl h)
theorem r_putFi (B : Cx G p s m args meth c cc nL own) (hM : Md G th rh ph ka H locs) (hin2 : meth.name = "<init>") {a pl ci index : Nat} (k : Nat) {r : vw_C} {f : String} {v : Int32} (ha : th a = some (pl, .inl ci)) (hc : gCl[ci]? = some r) (hk : k < r.2.2) (hT : r.2.1 k = (own, f, "I", true)) (hr : gR ci k = false) (q : Cond.fieldLink own index own f "I" ∈ lw_all) (hdg : decode cc pc = .ok (.putfield index, 3))
    (kk : ∀ (ka1 : Ka) (H : Heap) (locs : List Loc), ka1 = up2 ka pl k v → Md G th rh ph ka1 H locs → W p l e R s m args below meth c H locs cells slots Q (F0 m (pc + 3) ls rest)) : W p l e R s m args below meth c H locs cells slots Q (F0 m pc ls (.int v :: .ref a :: rest)) :=
  r_putF (ty := .int) (ka' := up2 ka pl k v) (rh' := rh) B hM hin2 k ha hc hk hT q (by decide +kernel) rfl rfl (fun j => by rw [up2_row]; exact gV_ui hr j) (fun q hq => ⟨up2_a _ _ _ hq, rfl⟩) hdg (fun H locs h => kk _ H locs rfl h)
theorem r_putFq (B : Cx G p s m args meth c cc nL own) (hM : Md G th rh ph ka H locs) (hin2 : meth.name = "<init>") {a b pl ci index : Nat} (k : Nat) {r : vw_C} {f d : String} {ty : FieldType} (ha : th a = some (pl, .inl ci)) (hc : gCl[ci]? = some r) (hk : k < r.2.2) (hT : r.2.1 k = (own, f, d, true)) (hr : gR ci k = true) (q : Cond.fieldLink own index own f d ∈ lw_all) (hd : parseFieldDescriptor d = some ty) (hn : narrow ty (.ref b) = .ref b) (hfit : fits ty (.ref b) = true) (hdg : decode cc pc = .ok (.putfield index, 3))
    (kk : ∀ (rh1 : Rh) (H : Heap) (locs : List Loc), rh1 = up2 rh pl k (some b) → Md G th rh1 ph ka H locs → W p l e R s m args below meth c H locs cells slots Q (F0 m (pc + 3) ls rest)) : W p l e R s m args below meth c H locs cells slots Q (F0 m pc ls (.ref b :: .ref a :: rest)) :=
  r_putF (ty := ty) (ka' := ka) (rh' := up2 rh pl k (some b)) B hM hin2 k ha hc hk hT q hd hn hfit (fun j => by rw [up2_row]; exact gV_ur (v := some b) hr j) (fun q hq => ⟨rfl, up2_a _ _ _ hq⟩) hdg (fun H locs h => kk _ H locs rfl h)
end RR
