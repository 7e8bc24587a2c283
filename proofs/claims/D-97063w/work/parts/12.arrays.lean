/-! ROWS: arrays, new cells -/
set_option maxRecDepth 100000
theorem ix_in {x : Int32} {i n : Nat} (hx : x = nI i) (hi : i < n) (hn : n < 2 ^ 31) : ¬ (x < 0 ∨ n ≤ x.toNatClampNeg) := by rw [hx]; exact nI_in hi hn
theorem ix_cl {x : Int32} {i n : Nat} (hx : x = nI i) (hi : i < n) (hn : n < 2 ^ 31) : x.toNatClampNeg = i := by rw [hx]; exact nI_clamp (by omega)
theorem gE_i {t : Nat} {kp : Nat → Int32} {rp : Nat → Option Nat} {pp : Nat → UInt32} {i : Nat} (h : t < 5) : gE t kp rp pp i = .int (kp i) := by simp [gE, h]
theorem gE_f {kp : Nat → Int32} {rp : Nat → Option Nat} {pp : Nat → UInt32} {i : Nat} : gE 5 kp rp pp i = .float (pp i) := by simp [gE]
theorem gE_r {t : Nat} {kp : Nat → Int32} {rp : Nat → Option Nat} {pp : Nat → UInt32} {i : Nat} (h : 5 < t) : gE t kp rp pp i = va_rf (rp i) := by
  have h1 : ¬ t < 5 := by omega
  have h2 : ¬ t = 5 := by omega
  simp [gE, h1, h2]
section RA
variable {p : Program} {l : Launch} {e : Env} {R : Room} {s : State} {m : MethodId} {args : Array Value} {below : List Frame} {meth : Method} {c : Code} {H : Heap} {locs : List Loc} {cells slots : Nat} {Q : State → Prop}
variable {cc : ByteArray} {nL pc : Nat} {own : String} {ls : Array Slot} {rest : List Value} {G : GG} {th : Th} {rh rh' : Rh} {ph ph' : Ph} {ka ka' : Ka}
theorem r_ild (B : Cx G p s m args meth c cc nL own) (hM : Md G th rh ph ka H locs) {a pl n : Nat} {x : Int32} (i : Nat) (ha : th a = some (pl, .inr (0, n))) (hx : x = nI i) (hi : i < n) (hn : n < 2 ^ 31) (hdg : decode cc pc = .ok (.iaload, 1))
    (kk : W p l e R s m args below meth c H locs cells slots Q (F0 m (pc + 1) ls (.int (ka pl i) :: rest))) : W p l e R s m args below meth c H locs cells slots Q (F0 m pc ls (.int x :: .ref a :: rest)) := by
  obtain ⟨hex, hb, hml, hown, hts, hlk, hKn⟩ := B
  have hc : H[a]? = some (arrV (G.2.1 0) n (gE 0 (ka pl) (rh pl) (ph pl))) := (hM.1.1 a pl _ ha).2.1
  refine W.iald (v := .int (ka pl i)) hex hb hc ((hKn.K.2 0 _ rfl).1 n _) (fun q => by cases q) (by rw [arrV_size]; exact ix_in hx hi hn) ?_ rfl rfl hdg kk
  rw [ix_cl hx hi hn, arrV_read _ _ hi]
  rfl
theorem r_zld (B : Cx G p s m args meth c cc nL own) (hM : Md G th rh ph ka H locs) {a pl n : Nat} {x : Int32} (i : Nat) (ha : th a = some (pl, .inr (1, n))) (hx : x = nI i) (hi : i < n) (hn : n < 2 ^ 31) (hdg : decode cc pc = .ok (.baload, 1))
    (kk : W p l e R s m args below meth c H locs cells slots Q (F0 m (pc + 1) ls (.int (ka pl i) :: rest))) : W p l e R s m args below meth c H locs cells slots Q (F0 m pc ls (.int x :: .ref a :: rest)) := by
  obtain ⟨hex, hb, hml, hown, hts, hlk, hKn⟩ := B
  have hc : H[a]? = some (arrV (G.2.1 1) n (gE 1 (ka pl) (rh pl) (ph pl))) := (hM.1.1 a pl _ ha).2.1
  refine W.zald (v := .int (ka pl i)) hex hb hc ((hKn.K.2 1 _ rfl).1 n _) (fun q => by cases q) (by rw [arrV_size]; exact ix_in hx hi hn) ?_ rfl rfl hdg kk
  rw [ix_cl hx hi hn, arrV_read _ _ hi]
  rfl
theorem r_bld (B : Cx G p s m args meth c cc nL own) (hM : Md G th rh ph ka H locs) {a pl n : Nat} {x : Int32} (i : Nat) (ha : th a = some (pl, .inr (2, n))) (hx : x = nI i) (hi : i < n) (hn : n < 2 ^ 31) (hdg : decode cc pc = .ok (.baload, 1))
    (kk : W p l e R s m args below meth c H locs cells slots Q (F0 m (pc + 1) ls (.int (ka pl i) :: rest))) : W p l e R s m args below meth c H locs cells slots Q (F0 m pc ls (.int x :: .ref a :: rest)) := by
  obtain ⟨hex, hb, hml, hown, hts, hlk, hKn⟩ := B
  have hc : H[a]? = some (arrV (G.2.1 2) n (gE 2 (ka pl) (rh pl) (ph pl))) := (hM.1.1 a pl _ ha).2.1
  refine W.bald (v := .int (ka pl i)) hex hb hc ((hKn.K.2 2 _ rfl).1 n _) (fun q => by cases q) (by rw [arrV_size]; exact ix_in hx hi hn) ?_ rfl rfl hdg kk
  rw [ix_cl hx hi hn, arrV_read _ _ hi]
  rfl
theorem r_cld (B : Cx G p s m args meth c cc nL own) (hM : Md G th rh ph ka H locs) {a pl n : Nat} {x : Int32} (i : Nat) (ha : th a = some (pl, .inr (3, n))) (hx : x = nI i) (hi : i < n) (hn : n < 2 ^ 31) (hdg : decode cc pc = .ok (.caload, 1))
    (kk : W p l e R s m args below meth c H locs cells slots Q (F0 m (pc + 1) ls (.int (ka pl i) :: rest))) : W p l e R s m args below meth c H locs cells slots Q (F0 m pc ls (.int x :: .ref a :: rest)) := by
  obtain ⟨hex, hb, hml, hown, hts, hlk, hKn⟩ := B
  have hc : H[a]? = some (arrV (G.2.1 3) n (gE 3 (ka pl) (rh pl) (ph pl))) := (hM.1.1 a pl _ ha).2.1
  refine W.cald (v := .int (ka pl i)) hex hb hc ((hKn.K.2 3 _ rfl).1 n _) (fun q => by cases q) (by rw [arrV_size]; exact ix_in hx hi hn) ?_ rfl rfl hdg kk
  rw [ix_cl hx hi hn, arrV_read _ _ hi]
  rfl
theorem r_sld (B : Cx G p s m args meth c cc nL own) (hM : Md G th rh ph ka H locs) {a pl n : Nat} {x : Int32} (i : Nat) (ha : th a = some (pl, .inr (4, n))) (hx : x = nI i) (hi : i < n) (hn : n < 2 ^ 31) (hdg : decode cc pc = .ok (.saload, 1))
    (kk : W p l e R s m args below meth c H locs cells slots Q (F0 m (pc + 1) ls (.int (ka pl i) :: rest))) : W p l e R s m args below meth c H locs cells slots Q (F0 m pc ls (.int x :: .ref a :: rest)) := by
  obtain ⟨hex, hb, hml, hown, hts, hlk, hKn⟩ := B
  have hc : H[a]? = some (arrV (G.2.1 4) n (gE 4 (ka pl) (rh pl) (ph pl))) := (hM.1.1 a pl _ ha).2.1
  refine W.sald (v := .int (ka pl i)) hex hb hc ((hKn.K.2 4 _ rfl).1 n _) (fun q => by cases q) (by rw [arrV_size]; exact ix_in hx hi hn) ?_ rfl rfl hdg kk
  rw [ix_cl hx hi hn, arrV_read _ _ hi]
  rfl
theorem r_fld (B : Cx G p s m args meth c cc nL own) (hM : Md G th rh ph ka H locs) {a pl n : Nat} {x : Int32} (i : Nat) (ha : th a = some (pl, .inr (5, n))) (hx : x = nI i) (hi : i < n) (hn : n < 2 ^ 31) (hdg : decode cc pc = .ok (.faload, 1))
    (kk : W p l e R s m args below meth c H locs cells slots Q (F0 m (pc + 1) ls (.float (ph pl i) :: rest))) : W p l e R s m args below meth c H locs cells slots Q (F0 m pc ls (.int x :: .ref a :: rest)) := by
  obtain ⟨hex, hb, hml, hown, hts, hlk, hKn⟩ := B
  have hc : H[a]? = some (arrV (G.2.1 5) n (gE 5 (ka pl) (rh pl) (ph pl))) := (hM.1.1 a pl _ ha).2.1
  refine W.fald (v := .float (ph pl i)) hex hb hc ((hKn.K.2 5 _ rfl).1 n _) (fun q => by cases q) (by rw [arrV_size]; exact ix_in hx hi hn) ?_ rfl rfl hdg kk
  rw [ix_cl hx hi hn, arrV_read _ _ hi]
  rfl
/-- an element of an array of references, t: the array's type -/
theorem r_ald (B : Cx G p s m args meth c cc nL own) (hM : Md G th rh ph ka H locs) {a pl n t : Nat} {C : String} {x : Int32} (i : Nat) {v : Value} (ha : th a = some (pl, .inr (t, n))) (ht : (gTys G)[t]? = some (G.2.1 t, .object C)) (h5 : 5 < t) (hx : x = nI i) (hi : i < n) (hn : n < 2 ^ 31) (hv : va_rf (rh pl i) = v) (hdg : decode cc pc = .ok (.aaload, 1))
    (kk : W p l e R s m args below meth c H locs cells slots Q (F0 m (pc + 1) ls (v :: rest))) : W p l e R s m args below meth c H locs cells slots Q (F0 m pc ls (.int x :: .ref a :: rest)) := by
  obtain ⟨hex, hb, hml, hown, hts, hlk, hKn⟩ := B
  have hc : H[a]? = some (arrV (G.2.1 t) n (gE t (ka pl) (rh pl) (ph pl))) := (hM.1.1 a pl _ ha).2.1
  refine W.aald (v := v) (ty := .object C) hex hb hc ((hKn.K.2 t _ ht).1 n _) rfl (fun q => by cases q) (by rw [arrV_size]; exact ix_in hx hi hn) ?_ rfl rfl hdg kk
  rw [ix_cl hx hi hn, arrV_read _ _ hi, gE_r h5, hv]
theorem r_aldq (B : Cx G p s m args meth c cc nL own) (hM : Md G th rh ph ka H locs) {a b pl n t : Nat} {C : String} {x : Int32} (i : Nat) (ha : th a = some (pl, .inr (t, n))) (ht : (gTys G)[t]? = some (G.2.1 t, .object C)) (h5 : 5 < t) (hx : x = nI i) (hi : i < n) (hn : n < 2 ^ 31) (hv : rh pl i = some b) (hdg : decode cc pc = .ok (.aaload, 1))
    (kk : W p l e R s m args below meth c H locs cells slots Q (F0 m (pc + 1) ls (.ref b :: rest))) : W p l e R s m args below meth c H locs cells slots Q (F0 m pc ls (.int x :: .ref a :: rest)) :=
  r_ald B hM i ha ht h5 hx hi hn (by rw [hv]; rfl) hdg kk
theorem r_len (B : Cx G p s m args meth c cc nL own) (hM : Md G th rh ph ka H locs) {a pl n t : Nat} {ty : FieldType} (ha : th a = some (pl, .inr (t, n))) (ht : (gTys G)[t]? = some (G.2.1 t, ty)) (hdg : decode cc pc = .ok (.arraylength, 1))
    (kk : W p l e R s m args below meth c H locs cells slots Q (F0 m (pc + 1) ls (.int (nI n) :: rest))) : W p l e R s m args below meth c H locs cells slots Q (F0 m pc ls (.ref a :: rest)) := by
  obtain ⟨hex, hb, hml, hown, hts, hlk, hKn⟩ := B
  have hc : H[a]? = some (arrV (G.2.1 t) n (gE t (ka pl) (rh pl) (ph pl))) := (hM.1.1 a pl _ ha).2.1
  exact W.alen (n := nI n) hex hb hc ((hKn.K.2 t _ ht).1 n _) (by rw [arrV_size]; rfl) rfl rfl hdg kk
theorem r_ist (B : Cx G p s m args meth c cc nL own) (hM : Md G th rh ph ka H locs) {a pl n : Nat} {x y : Int32} (i : Nat) (ha : th a = some (pl, .inr (0, n))) (hx : x = nI i) (hi : i < n) (hn : n < 2 ^ 31) (hdg : decode cc pc = .ok (.iastore, 1))
    (kk : ∀ (ka1 : Ka) (H : Heap) (locs : List Loc), ka1 = up2 ka pl i y → Md G th rh ph ka1 H locs → W p l e R s m args below meth c H locs cells slots Q (F0 m (pc + 1) ls rest)) : W p l e R s m args below meth c H locs cells slots Q (F0 m pc ls (.int y :: .int x :: .ref a :: rest)) := by
  obtain ⟨hex, hb, hml, hown, hts, hlk, hKn⟩ := B
  have hc : H[a]? = some (arrV (G.2.1 0) n (gE 0 (ka pl) (rh pl) (ph pl))) := (hM.1.1 a pl _ ha).2.1
  refine W.iast hex hb hc ((hKn.K.2 0 _ rfl).1 n _) (fun q => by cases q) (by rw [arrV_size]; exact ix_in hx hi hn) rfl rfl hdg fun H1 e1 z oq => ?_
  refine kk _ H1 _ rfl ⟨hM.1.write ha (fun q hq => ⟨up2_a _ _ _ hq, rfl, rfl⟩) ?_ z oq, Md.lcs hM.2 (hM.1.old ha)⟩
  show H1[a]? = some (arrV _ _ _)
  rw [e1, ix_cl hx hi hn, arrV_store, up2_row]
  congr 2
  funext j
  exact gE_ui (by decide) j
theorem r_zst (B : Cx G p s m args meth c cc nL own) (hM : Md G th rh ph ka H locs) {a pl n : Nat} {x y : Int32} (i : Nat) (ha : th a = some (pl, .inr (1, n))) (hx : x = nI i) (hi : i < n) (hn : n < 2 ^ 31) (hdg : decode cc pc = .ok (.bastore, 1))
    (kk : ∀ (ka1 : Ka) (H : Heap) (locs : List Loc), ka1 = up2 ka pl i (vp_nar .boolean y) → Md G th rh ph ka1 H locs → W p l e R s m args below meth c H locs cells slots Q (F0 m (pc + 1) ls rest)) : W p l e R s m args below meth c H locs cells slots Q (F0 m pc ls (.int y :: .int x :: .ref a :: rest)) := by
  obtain ⟨hex, hb, hml, hown, hts, hlk, hKn⟩ := B
  have hc : H[a]? = some (arrV (G.2.1 1) n (gE 1 (ka pl) (rh pl) (ph pl))) := (hM.1.1 a pl _ ha).2.1
  refine W.zast hex hb hc ((hKn.K.2 1 _ rfl).1 n _) (fun q => by cases q) (by rw [arrV_size]; exact ix_in hx hi hn) rfl rfl hdg fun H1 e1 z oq => ?_
  refine kk _ H1 _ rfl ⟨hM.1.write ha (fun q hq => ⟨up2_a _ _ _ hq, rfl, rfl⟩) ?_ z oq, Md.lcs hM.2 (hM.1.old ha)⟩
  show H1[a]? = some (arrV _ _ _)
  rw [e1, ix_cl hx hi hn, arrV_store, up2_row]
  congr 2
  funext j
  exact gE_ui (by decide) j
theorem r_bst (B : Cx G p s m args meth c cc nL own) (hM : Md G th rh ph ka H locs) {a pl n : Nat} {x y : Int32} (i : Nat) (ha : th a = some (pl, .inr (2, n))) (hx : x = nI i) (hi : i < n) (hn : n < 2 ^ 31) (hdg : decode cc pc = .ok (.bastore, 1))
    (kk : ∀ (ka1 : Ka) (H : Heap) (locs : List Loc), ka1 = up2 ka pl i (vp_nar .byte y) → Md G th rh ph ka1 H locs → W p l e R s m args below meth c H locs cells slots Q (F0 m (pc + 1) ls rest)) : W p l e R s m args below meth c H locs cells slots Q (F0 m pc ls (.int y :: .int x :: .ref a :: rest)) := by
  obtain ⟨hex, hb, hml, hown, hts, hlk, hKn⟩ := B
  have hc : H[a]? = some (arrV (G.2.1 2) n (gE 2 (ka pl) (rh pl) (ph pl))) := (hM.1.1 a pl _ ha).2.1
  refine W.bast hex hb hc ((hKn.K.2 2 _ rfl).1 n _) (fun q => by cases q) (by rw [arrV_size]; exact ix_in hx hi hn) rfl rfl hdg fun H1 e1 z oq => ?_
  refine kk _ H1 _ rfl ⟨hM.1.write ha (fun q hq => ⟨up2_a _ _ _ hq, rfl, rfl⟩) ?_ z oq, Md.lcs hM.2 (hM.1.old ha)⟩
  show H1[a]? = some (arrV _ _ _)
  rw [e1, ix_cl hx hi hn, arrV_store, up2_row]
  congr 2
  funext j
  exact gE_ui (by decide) j
theorem r_cst (B : Cx G p s m args meth c cc nL own) (hM : Md G th rh ph ka H locs) {a pl n : Nat} {x y : Int32} (i : Nat) (ha : th a = some (pl, .inr (3, n))) (hx : x = nI i) (hi : i < n) (hn : n < 2 ^ 31) (hdg : decode cc pc = .ok (.castore, 1))
    (kk : ∀ (ka1 : Ka) (H : Heap) (locs : List Loc), ka1 = up2 ka pl i (vp_nar .char y) → Md G th rh ph ka1 H locs → W p l e R s m args below meth c H locs cells slots Q (F0 m (pc + 1) ls rest)) : W p l e R s m args below meth c H locs cells slots Q (F0 m pc ls (.int y :: .int x :: .ref a :: rest)) := by
  obtain ⟨hex, hb, hml, hown, hts, hlk, hKn⟩ := B
  have hc : H[a]? = some (arrV (G.2.1 3) n (gE 3 (ka pl) (rh pl) (ph pl))) := (hM.1.1 a pl _ ha).2.1
  refine W.cast hex hb hc ((hKn.K.2 3 _ rfl).1 n _) (fun q => by cases q) (by rw [arrV_size]; exact ix_in hx hi hn) rfl rfl hdg fun H1 e1 z oq => ?_
  refine kk _ H1 _ rfl ⟨hM.1.write ha (fun q hq => ⟨up2_a _ _ _ hq, rfl, rfl⟩) ?_ z oq, Md.lcs hM.2 (hM.1.old ha)⟩
  show H1[a]? = some (arrV _ _ _)
  rw [e1, ix_cl hx hi hn, arrV_store, up2_row]
  congr 2
  funext j
  exact gE_ui (by decide) j
theorem r_sst (B : Cx G p s m args meth c cc nL own) (hM : Md G th rh ph ka H locs) {a pl n : Nat} {x y : Int32} (i : Nat) (ha : th a = some (pl, .inr (4, n))) (hx : x = nI i) (hi : i < n) (hn : n < 2 ^ 31) (hdg : decode cc pc = .ok (.sastore, 1))
    (kk : ∀ (ka1 : Ka) (H : Heap) (locs : List Loc), ka1 = up2 ka pl i (vp_nar .short y) → Md G th rh ph ka1 H locs → W p l e R s m args below meth c H locs cells slots Q (F0 m (pc + 1) ls rest)) : W p l e R s m args below meth c H locs cells slots Q (F0 m pc ls (.int y :: .int x :: .ref a :: rest)) := by
  obtain ⟨hex, hb, hml, hown, hts, hlk, hKn⟩ := B
  have hc : H[a]? = some (arrV (G.2.1 4) n (gE 4 (ka pl) (rh pl) (ph pl))) := (hM.1.1 a pl _ ha).2.1
  refine W.sast hex hb hc ((hKn.K.2 4 _ rfl).1 n _) (fun q => by cases q) (by rw [arrV_size]; exact ix_in hx hi hn) rfl rfl hdg fun H1 e1 z oq => ?_
  refine kk _ H1 _ rfl ⟨hM.1.write ha (fun q hq => ⟨up2_a _ _ _ hq, rfl, rfl⟩) ?_ z oq, Md.lcs hM.2 (hM.1.old ha)⟩
  show H1[a]? = some (arrV _ _ _)
  rw [e1, ix_cl hx hi hn, arrV_store, up2_row]
  congr 2
  funext j
  exact gE_ui (by decide) j
theorem r_fst (B : Cx G p s m args meth c cc nL own) (hM : Md G th rh ph ka H locs) {a pl n : Nat} {x : Int32} {y : UInt32} (i : Nat) (ha : th a = some (pl, .inr (5, n))) (hx : x = nI i) (hi : i < n) (hn : n < 2 ^ 31) (hdg : decode cc pc = .ok (.fastore, 1))
    (kk : ∀ (ph1 : Ph) (H : Heap) (locs : List Loc), ph1 = up2 ph pl i y → Md G th rh ph1 ka H locs → W p l e R s m args below meth c H locs cells slots Q (F0 m (pc + 1) ls rest)) : W p l e R s m args below meth c H locs cells slots Q (F0 m pc ls (.float y :: .int x :: .ref a :: rest)) := by
  obtain ⟨hex, hb, hml, hown, hts, hlk, hKn⟩ := B
  have hc : H[a]? = some (arrV (G.2.1 5) n (gE 5 (ka pl) (rh pl) (ph pl))) := (hM.1.1 a pl _ ha).2.1
  refine W.fast hex hb hc ((hKn.K.2 5 _ rfl).1 n _) (fun q => by cases q) (by rw [arrV_size]; exact ix_in hx hi hn) rfl rfl hdg fun H1 e1 z oq => ?_
  refine kk _ H1 _ rfl ⟨hM.1.write ha (fun q hq => ⟨rfl, rfl, up2_a _ _ _ hq⟩) ?_ z oq, Md.lcs hM.2 (hM.1.old ha)⟩
  show H1[a]? = some (arrV _ _ _)
  rw [e1, ix_cl hx hi hn, arrV_store, up2_row]
  congr 2
  funext j
  exact gE_uf j
/-- a reference is stored: the object's class is the array's, or may be cast to it -/
theorem r_ast (B : Cx G p s m args meth c cc nL own) (hM : Md G th rh ph ka H locs) {a b pl pl' n t ci : Nat} {C : String} {r : vw_C} {x : Int32} (i : Nat) (ha : th a = some (pl, .inr (t, n))) (ht : (gTys G)[t]? = some (G.2.1 t, .object C)) (h5 : 5 < t) (hb' : th b = some (pl', .inl ci)) (hc : gCl[ci]? = some r) (hca : r.1 = C ∨ Cond.castable r.1 C ∈ lw_tbl) (hx : x = nI i) (hi : i < n) (hn : n < 2 ^ 31) (hdg : decode cc pc = .ok (.aastore, 1))
    (kk : ∀ (rh1 : Rh) (H : Heap) (locs : List Loc), rh1 = up2 rh pl i (some b) → Md G th rh1 ph ka H locs → W p l e R s m args below meth c H locs cells slots Q (F0 m (pc + 1) ls rest)) : W p l e R s m args below meth c H locs cells slots Q (F0 m pc ls (.ref b :: .int x :: .ref a :: rest)) := by
  obtain ⟨hex, hb, hml, hown, hts, hlk, hKn⟩ := B
  have hca' : H[a]? = some (arrV (G.2.1 t) n (gE t (ka pl) (rh pl) (ph pl))) := (hM.1.1 a pl _ ha).2.1
  obtain ⟨r', h1, cell, q1, q2, q3, q4⟩ := (hM.1.1 b pl' _ hb').2.1
  cases h1.symm.trans hc
  have hcls := (hKn.K.1 ci r hc).2
  obtain ⟨kA, comp, k1, k2, k3, -⟩ := (hKn.K.2 t _ ht).2
  obtain ⟨kE, hkE, -⟩ := Vm.findClass_spec k3
  obtain ⟨kC, hkC, -⟩ := hcls.2
  have hass : s.vm.assignable (G.1.1 ci) comp = true := by
    rcases hca with e1 | hq
    · rw [e1] at hcls
      have : comp = G.1.1 ci := Option.some.inj (k3.symm.trans hcls.1)
      rw [this]; exact va_assign hcls
    · obtain ⟨⟨⟨b0, hw0, -⟩, -⟩, hW0⟩ := hKn
      obtain ⟨c0, t1, f1, f2, f3⟩ := Cond.castable_spec (va_Nw.use (A := args) rfl (va_Nw.warmC hW0 (va_Nw.of rfl (hw0 _ hq))))
      cases hcls.1.symm.trans f1
      cases k3.symm.trans f2
      exact f3
  have hcl := ix_cl hx hi hn
  have hin := ix_in hx hi hn
  refine W.aast hex hb hca' (fun q h => by cases h) (fun h => by cases h) k1 k2 rfl hkE ⟨fun z => hin (Or.inl z), by rw [arrV_size, hcl]; exact hi⟩ q1 (fun q h => by rw [q3] at h; cases h) (by rw [q2]; exact hkC) (by rw [q2]; exact hass) rfl rfl hdg fun H1 e1 z oq => ?_
  refine kk _ H1 _ rfl ⟨hM.1.write ha (fun q hq => ⟨rfl, up2_a _ _ _ hq, rfl⟩) ?_ z oq, Md.lcs hM.2 (hM.1.old ha)⟩
  show H1[a]? = some (arrV _ _ _)
  rw [e1, hcl, arrV_store, up2_row]
  congr 2
  funext j
  exact gE_ur (v := some b) h5 j
/-- new: an object of the class ci, with n slots -/
theorem r_new (B : Cx G p s m args meth c cc nL own) (hM : Md G th rh ph ka H locs) {ci n index : Nat} {C : String} {T : u_T} {N : Nat} (hc : gCl[ci]? = some (C, T, N)) (hd : ∀ ty : Nat → FieldType, (∀ k, k < N → parseFieldDescriptor (T k).2.2.1 = some (ty k)) → ∀ k, k < N → defaultValue (ty k) = gV ci (fun _ => 0) (fun _ => none) k) (q1 : Cond.classLink own index C ∈ lw_all) (q2 : Cond.instantiable C n ∈ lw_all) (q3 : Cond.initialized C ∈ lw_all) (hcells : cells + 1 ≤ R.cells) (hslots : slots + n ≤ R.slots) (hdg : decode cc pc = .ok (.new index, 3))
    (kk : ∀ (a : Nat) (H : Heap), th a = none → (∀ (b : Nat) (s' : Sh), ¬ th b = some (10000 + a, s')) → Md G (va_up th a (some (10000 + a, .inl ci))) (up1 rh (10000 + a) (fun _ => none)) ph (up1 ka (10000 + a) (fun _ => 0)) H locs → W p l e R s m args below meth c H locs (cells + 1) (slots + n) Q (F0 m (pc + 3) ls (.ref a :: rest))) : W p l e R s m args below meth c H locs cells slots Q (F0 m pc ls rest) := by
  obtain ⟨hex, hb, hml, hown, hts, hlk, hKn⟩ := B
  have hK1 := hKn.K.1 ci _ hc
  obtain ⟨ty, ht1, ht2⟩ := gTy hc
  refine W.newcK hex hb hown (hts _ q1) (hts _ q2) (hts _ q3) rfl hdg hcells hslots hK1.2.1 rfl fun H1 kC hkC e1 z1 o1 => ?_
  refine kk H.size H1 hM.1.fresh (fun b s' => hM.1.freshP) ⟨hM.1.alloc (sh := .inl ci) (fun q hq => ⟨up1_a _ _ hq, up1_a _ _ hq, rfl⟩) ?_ z1 o1, hM.2⟩
  rw [up1_s, up1_s]
  exact ⟨_, hc, (u_born ty hts (gIn hc) hK1 hkC e1 ht1).to (hd ty ht1)⟩
/-- newarray of a primitive type -/
theorem r_newa (B : Cx G p s m args meth c cc nL own) (hM : Md G th rh ph ka H locs) {t : Nat} {atype : ArrayType} {x : Int32} (n : Nat) (hx : x = nI n) (hn : n < 2 ^ 20) (ht : (gTys G)[t]? = some (G.2.1 t, newarray.typeOf atype)) (hz : ∀ i, gE t (fun _ => 0) (fun _ => none) (fun _ => 0) i = defaultValue (newarray.typeOf atype)) (hcb : componentBytes (newarray.typeOf atype) ≤ 8) (hp : (newarray.typeOf atype).isReference = false) (q1 : Cond.arrayClass (newarray.typeOf atype) ∈ lw_all) (hcells : cells + 1 ≤ R.cells) (hslots : slots + n ≤ R.slots) (hdg : decode cc pc = .ok (.newarray atype, 2))
    (kk : ∀ (a : Nat) (H : Heap), th a = none → (∀ (b : Nat) (s' : Sh), ¬ th b = some (10000 + a, s')) → Md G (va_up th a (some (10000 + a, .inr (t, n)))) (up1 rh (10000 + a) (fun _ => none)) (up1 ph (10000 + a) (fun _ => 0)) (up1 ka (10000 + a) (fun _ => 0)) H locs → W p l e R s m args below meth c H locs (cells + 1) (slots + n) Q (F0 m (pc + 2) ls (.ref a :: rest))) : W p l e R s m args below meth c H locs cells slots Q (F0 m pc ls (.int x :: rest)) := by
  obtain ⟨hex, hb, hml, hown, hts, hlk, hKn⟩ := B
  have hcl : x.toNatClampNeg = n := by rw [hx]; exact nI_clamp (by omega)
  refine va_newaK hex hb (hts _ q1) rfl hdg rfl (by rw [hx]; exact nI_pos (by omega)) hcl (Nat.le_trans (Nat.mul_le_mul (Nat.le_of_lt hn) hcb) (by decide)) hcells hslots rfl fun H1 cA e1 z1 o1 hAr hNm => ?_
  have hcA : cA = G.2.1 t := by
    have h1 := (hKn.K.2 t _ ht).2
    cases atype <;> exact Option.some.inj (hNm.symm.trans h1)
  refine kk H.size H1 hM.1.fresh (fun b s' => hM.1.freshP) ⟨hM.1.alloc (sh := .inr (t, n)) (fun q hq => ⟨up1_a _ _ hq, up1_a _ _ hq, up1_a _ _ hq⟩) ?_ z1 o1, hM.2⟩
  rw [up1_s, up1_s, up1_s]
  show H1[H.size]? = some (arrV (G.2.1 t) n _)
  rw [e1, hcA]
  congr 2
  funext i
  exact (hz i).symm
/-- anewarray -/
theorem r_anew (B : Cx G p s m args meth c cc nL own) (hM : Md G th rh ph ka H locs) {t index : Nat} {C : String} {x : Int32} (n : Nat) (hx : x = nI n) (hn : n < 2 ^ 20) (ht : (gTys G)[t]? = some (G.2.1 t, .object C)) (h5 : 5 < t) (q1 : Cond.classLink own index C ∈ lw_all) (q2 : Cond.arrayOver (.object C) ∈ lw_tbl) (hcells : cells + 1 ≤ R.cells) (hslots : slots + n ≤ R.slots) (hdg : decode cc pc = .ok (.anewarray index, 3))
    (kk : ∀ (a : Nat) (H : Heap), th a = none → (∀ (b : Nat) (s' : Sh), ¬ th b = some (10000 + a, s')) → Md G (va_up th a (some (10000 + a, .inr (t, n)))) (up1 rh (10000 + a) (fun _ => none)) (up1 ph (10000 + a) (fun _ => 0)) (up1 ka (10000 + a) (fun _ => 0)) H locs → W p l e R s m args below meth c H locs (cells + 1) (slots + n) Q (F0 m (pc + 3) ls (.ref a :: rest))) : W p l e R s m args below meth c H locs cells slots Q (F0 m pc ls (.int x :: rest)) := by
  obtain ⟨hex, hb, hml, hown, hts, hlk, hKn⟩ := B
  have hcl : x.toNatClampNeg = n := by rw [hx]; exact nI_clamp (by omega)
  obtain ⟨⟨⟨b0, hw0, -⟩, -⟩, hW0⟩ := id hKn
  have hover : va_AO C s := va_AO.moved hW0.alike (va_AO.of (hw0 _ q2))
  refine W.anew hex hb hown (hts _ q1) (va_AO.use hover) rfl hdg rfl (by rw [hx]; exact nI_pos (by omega)) (by rw [hcl]; omega) hcells (by rw [hcl]; exact hslots) fun cA kA comp f1 f2 f3 f4 => ?_
  rw [hcl]
  generalize hH1 : H.push ({ cls := cA, slots := Array.replicate n .null, vm := .none } : Cell) = H1
  have z1 : H1.size = H.size + 1 := by rw [← hH1, Array.size_push]
  have e1 : H1[H.size]? = some (arrV cA n (fun _ => .null)) := by rw [← hH1, Array.getElem?_push_size, ← arrV_new]
  have o1 : ∀ q : Nat, q < H.size → H1[q]? = H[q]? := fun q hq => by rw [← hH1, Array.getElem?_push, if_neg (Nat.ne_of_lt hq)]
  have hcA : cA = G.2.1 t := by
    obtain ⟨_, _, _, _, _, h1⟩ := (hKn.K.2 t _ ht).2
    exact Option.some.inj (f1.symm.trans h1)
  refine kk H.size H1 hM.1.fresh (fun b s' => hM.1.freshP) ⟨hM.1.alloc (sh := .inr (t, n)) (fun q hq => ⟨up1_a _ _ hq, up1_a _ _ hq, up1_a _ _ hq⟩) ?_ z1 o1, hM.2⟩
  rw [up1_s, up1_s, up1_s]
  show H1[H.size]? = some (arrV (G.2.1 t) n _)
  rw [e1, hcA]
  congr 2
  funext i
  rw [gE_r h5]
  rfl
end RA
