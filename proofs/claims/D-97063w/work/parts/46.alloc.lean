/-! NEW CELLS that get their places at once -/
set_option maxRecDepth 100000
abbrev FreeP (th : Th) (P : Nat) : Prop := ∀ (b : Nat) (s' : Sh), ¬ th b = some (P, s')
theorem Mem.congr {G : GG} {th : Th} {rh rh' : Rh} {ph ph' : Ph} {ka ka' : Ka} {H : Heap} (hM : Mem G th rh ph ka H) (h : ∀ (a pl : Nat) (sh : Sh), th a = some (pl, sh) → ka' pl = ka pl ∧ rh' pl = rh pl ∧ ph' pl = ph pl) : Mem G th rh' ph' ka' H := by
  refine ⟨fun a pl sh ha => ?_, hM.2⟩
  obtain ⟨h1, h2, h3⟩ := h a pl sh ha
  rw [h1, h2, h3]
  exact hM.1 a pl sh ha
section RN
variable {p : Program} {l : Launch} {e : Env} {R : Room} {s : State} {m : MethodId} {args : Array Value} {below : List Frame} {meth : Method} {c : Code} {H : Heap} {locs : List Loc} {cells slots : Nat} {Q : State → Prop}
variable {cc : ByteArray} {nL pc : Nat} {own : String} {ls : Array Slot} {rest : List Value} {G : GG} {th : Th} {rh : Rh} {ph : Ph} {ka : Ka}
/-- a new cell goes to its place -/
theorem Mem.placed {th : Th} {rh : Rh} {ph ph0 : Ph} {ka : Ka} {H : Heap} {a P : Nat} {sh : Sh} {zr : Nat → Option Nat} {zp : Nat → UInt32} {zk : Nat → Int32} (hP : P < 10000) (hn : th a = none) (hf : FreeP th P) (hp : ∀ q, q ≠ 10000 + a → ph0 q = ph q) (hM : Mem G (va_up th a (some (10000 + a, sh))) (up1 rh (10000 + a) zr) ph0 (up1 ka (10000 + a) zk) H) (hz : ph0 (10000 + a) = zp ∨ ∃ ci, sh = .inl ci) :
    Mem G (va_up th a (some (P, sh))) (up1 rh P zr) (up1 ph P zp) (up1 ka P zk) H := by
  have hfr : ∀ b s', ¬ va_up th a (some (10000 + a, sh)) b = some (P, s') := fun b s' h => by
    by_cases q : b = a
    · rw [q, va_up_self] at h; cases h; omega
    · rw [va_up_ne _ _ q] at h; exact hf b s' h
  have h2 := hM.move (va_up_self _ _ _) hfr hP
  rw [up1_s, up1_s] at h2
  have h3 : va_up (va_up th a (some (10000 + a, sh))) a (some (P, sh)) = va_up th a (some (P, sh)) := by
    funext b
    by_cases q : b = a
    · rw [q, va_up_self, va_up_self]
    · rw [va_up_ne _ _ q, va_up_ne _ _ q, va_up_ne _ _ q]
  rw [h3] at h2
  have key : ∀ b pl sh', va_up th a (some (P, sh)) b = some (pl, sh') → pl ≠ 10000 + a := fun b pl sh' h z => by
    by_cases q : b = a
    · rw [q, va_up_self] at h; cases h; omega
    · rw [va_up_ne _ _ q] at h
      have h4 := hM.1 b pl sh' (by rw [va_up_ne _ _ q]; exact h)
      have h5 := h4.2.2 (by omega)
      omega
  refine ⟨fun b pl sh' hb => ?_, h2.2⟩
  have hq := h2.1 b pl sh' hb
  have hne := key b pl sh' hb
  by_cases e : pl = P
  · subst e
    rw [up1_s, up1_s, up1_s] at hq ⊢
    rcases hz with hz | ⟨ci, rfl⟩
    · rw [hz] at hq; exact hq
    · have hsh : sh' = .inl ci := by
        by_cases q : b = a
        · rw [q, va_up_self] at hb; cases hb; rfl
        · rw [va_up_ne _ _ q] at hb; exact absurd hb (hf b sh')
      subst hsh
      exact hq
  · rw [up1_a _ _ e, up1_a _ _ e, up1_a _ _ e, up1_a _ _ hne, up1_a _ _ hne, hp pl hne] at hq
    rw [up1_a _ _ e, up1_a _ _ e, up1_a _ _ e]
    exact hq
theorem r_newaM (B : Cx G p s m args meth c cc nL own) (hM : Md G th rh ph ka H locs) {t : Nat} {atype : ArrayType} {x : Int32} (n P : Nat) (hP : P < 10000) (hf : FreeP th P) (hx : x = nI n) (hn : n < 2 ^ 20) (ht : (gTys G)[t]? = some (G.2.1 t, newarray.typeOf atype)) (hz : ∀ i, gE t (fun _ => 0) (fun _ => none) (fun _ => 0) i = defaultValue (newarray.typeOf atype)) (hcb : componentBytes (newarray.typeOf atype) ≤ 8) (hp : (newarray.typeOf atype).isReference = false) (q1 : Cond.arrayClass (newarray.typeOf atype) ∈ lw_all) (hcells : cells + 1 ≤ R.cells) (hslots : slots + n ≤ R.slots) (hdg : decode cc pc = .ok (.newarray atype, 2))
    (kk : ∀ (a : Nat) (th1 : Th) (rh1 : Rh) (ph1 : Ph) (ka1 : Ka) (H : Heap), th a = none → th1 = va_up th a (some (P, .inr (t, n))) → rh1 = up1 rh P (fun _ => none) → ph1 = up1 ph P (fun _ => 0) → ka1 = up1 ka P (fun _ => 0) → Md G th1 rh1 ph1 ka1 H locs → W p l e R s m args below meth c H locs (cells + 1) (slots + n) Q (F0 m (pc + 2) ls (.ref a :: rest))) : W p l e R s m args below meth c H locs cells slots Q (F0 m pc ls (.int x :: rest)) :=
  r_newa B hM n hx hn ht hz hcb hp q1 hcells hslots hdg fun a H h1 h2 hM1 => kk a _ _ _ _ H h1 rfl rfl rfl rfl ⟨Mem.placed hP h1 hf (fun q hq => up1_a _ _ hq) hM1.1 (Or.inl (up1_s _ _ _)), hM1.2⟩
theorem r_anewM (B : Cx G p s m args meth c cc nL own) (hM : Md G th rh ph ka H locs) {t index : Nat} {C : String} {x : Int32} (n P : Nat) (hP : P < 10000) (hf : FreeP th P) (hx : x = nI n) (hn : n < 2 ^ 20) (ht : (gTys G)[t]? = some (G.2.1 t, .object C)) (h5 : 5 < t) (q1 : Cond.classLink own index C ∈ lw_all) (q2 : Cond.arrayOver (.object C) ∈ lw_tbl) (hcells : cells + 1 ≤ R.cells) (hslots : slots + n ≤ R.slots) (hdg : decode cc pc = .ok (.anewarray index, 3))
    (kk : ∀ (a : Nat) (th1 : Th) (rh1 : Rh) (ph1 : Ph) (ka1 : Ka) (H : Heap), th a = none → th1 = va_up th a (some (P, .inr (t, n))) → rh1 = up1 rh P (fun _ => none) → ph1 = up1 ph P (fun _ => 0) → ka1 = up1 ka P (fun _ => 0) → Md G th1 rh1 ph1 ka1 H locs → W p l e R s m args below meth c H locs (cells + 1) (slots + n) Q (F0 m (pc + 3) ls (.ref a :: rest))) : W p l e R s m args below meth c H locs cells slots Q (F0 m pc ls (.int x :: rest)) :=
  r_anew B hM n hx hn ht h5 q1 q2 hcells hslots hdg fun a H h1 h2 hM1 => kk a _ _ _ _ H h1 rfl rfl rfl rfl ⟨Mem.placed hP h1 hf (fun q hq => up1_a _ _ hq) hM1.1 (Or.inl (up1_s _ _ _)), hM1.2⟩
theorem r_newM (B : Cx G p s m args meth c cc nL own) (hM : Md G th rh ph ka H locs) {ci n index : Nat} {C : String} {T : u_T} {N : Nat} (P : Nat) (hP : P < 10000) (hf : FreeP th P) (hc : gCl[ci]? = some (C, T, N)) (hd : ∀ ty : Nat → FieldType, (∀ k, k < N → parseFieldDescriptor (T k).2.2.1 = some (ty k)) → ∀ k, k < N → defaultValue (ty k) = gV ci (fun _ => 0) (fun _ => none) k) (q1 : Cond.classLink own index C ∈ lw_all) (q2 : Cond.instantiable C n ∈ lw_all) (q3 : Cond.initialized C ∈ lw_all) (hcells : cells + 1 ≤ R.cells) (hslots : slots + n ≤ R.slots) (hdg : decode cc pc = .ok (.new index, 3))
    (kk : ∀ (a : Nat) (th1 : Th) (rh1 : Rh) (ph1 : Ph) (ka1 : Ka) (H : Heap), th a = none → th1 = va_up th a (some (P, .inl ci)) → rh1 = up1 rh P (fun _ => none) → ph1 = up1 ph P (fun _ => 0) → ka1 = up1 ka P (fun _ => 0) → Md G th1 rh1 ph1 ka1 H locs → W p l e R s m args below meth c H locs (cells + 1) (slots + n) Q (F0 m (pc + 3) ls (.ref a :: rest))) : W p l e R s m args below meth c H locs cells slots Q (F0 m pc ls rest) :=
  r_new B hM hc hd q1 q2 q3 hcells hslots hdg fun a H h1 h2 hM1 => kk a _ _ _ _ H h1 rfl rfl rfl rfl ⟨Mem.placed hP h1 hf (fun q hq => rfl) hM1.1 (Or.inr ⟨_, rfl⟩), hM1.2⟩
end RN
/-- cells, references, rows that are known -/
def HasT (th : Th) (L : List (Nat × (Nat × Sh))) : Prop := ∀ q ∈ L, th q.1 = some q.2
theorem HasT.new {th : Th} {L : List (Nat × (Nat × Sh))} (h : HasT th L) {a : Nat} (hn : th a = none) (v : Nat × Sh) {th1 : Th} (e : th1 = va_up th a (some v)) : HasT th1 ((a, v) :: L) := by
  subst e
  intro q hq
  rcases List.mem_cons.mp hq with rfl | hq
  · exact va_up_self _ _ _
  · rw [va_up_ne _ _ (fun z => by have := h q hq; rw [z, hn] at this; cases this)]; exact h q hq
def HasR (rh : Rh) (P : Nat) (L : List (Nat × Nat)) : Prop := ∀ q ∈ L, rh P q.1 = some q.2
theorem HasR.put {rh : Rh} {P : Nat} {L : List (Nat × Nat)} (h : HasR rh P L) {k b : Nat} {rh1 : Rh} (e : rh1 = up2 rh P k (some b)) (hk : ∀ j ∈ L.map Prod.fst, j ≠ k) : HasR rh1 P ((k, b) :: L) := by
  subst e
  intro q hq
  rcases List.mem_cons.mp hq with rfl | hq
  · exact up2_s _ _ _ _
  · rw [up2_i _ _ _ _ (hk q.1 (List.mem_map_of_mem hq))]; exact h q hq
theorem HasR.new {rh : Rh} {P : Nat} {L : List (Nat × Nat)} (h : HasR rh P L) {P' : Nat} {r : Nat → Option Nat} {rh1 : Rh} (e : rh1 = up1 rh P' r) (hP : P ≠ P') : HasR rh1 P L := by
  subst e
  intro q hq
  rw [up1_a _ _ hP]; exact h q hq
def HasK (ka : Ka) (L : List (Nat × Row)) : Prop := ∀ q ∈ L, ka q.1 = q.2
theorem HasK.new {ka : Ka} {L : List (Nat × Row)} (h : HasK ka L) {P : Nat} {r : Row} {ka1 : Ka} (e : ka1 = up1 ka P r) (hk : ∀ j ∈ L.map Prod.fst, j ≠ P) : HasK ka1 ((P, r) :: L) := by
  subst e
  intro q hq
  rcases List.mem_cons.mp hq with rfl | hq
  · exact up1_s _ _ _
  · rw [up1_a _ _ (hk q.1 (List.mem_map_of_mem hq))]; exact h q hq
theorem HasK.up {ka : Ka} {P : Nat} {r : Row} {L : List (Nat × Row)} (h : HasK ka ((P, r) :: L)) {i : Nat} {v : Int32} {ka1 : Ka} (e : ka1 = up2 ka P i v) (hk : ∀ j ∈ L.map Prod.fst, j ≠ P) : HasK ka1 ((P, rw1 r i v) :: L) := by
  subst e
  intro q hq
  rcases List.mem_cons.mp hq with rfl | hq
  · rw [up2_row, h (P, r) List.mem_cons_self]; rfl
  · rw [up2_a _ _ _ (hk q.1 (List.mem_map_of_mem hq))]; exact h q (List.mem_cons_of_mem _ hq)
/-- new cells have places of a list; old ones stay -/
def News (th th1 : Th) (Ps : List Nat) : Prop := (∀ b v, th b = some v → th1 b = some v) ∧ ∀ b v, th1 b = some v → th b = some v ∨ v.1 ∈ Ps
theorem News.refl {th : Th} {Ps : List Nat} : News th th Ps := ⟨fun _ _ h => h, fun _ _ h => Or.inl h⟩
theorem News.new {th th1 th2 : Th} {Ps : List Nat} (h : News th th1 Ps) {a : Nat} {v : Nat × Sh} (hn : th1 a = none) (e : th2 = va_up th1 a (some v)) (hv : v.1 ∈ Ps) : News th th2 Ps := by
  subst e
  refine ⟨fun b w hb => ?_, fun b w hb => ?_⟩
  · have := h.1 b w hb
    rw [va_up_ne _ _ (fun z => by rw [z, hn] at this; cases this)]; exact this
  · by_cases q : b = a
    · rw [q, va_up_self] at hb; cases hb; exact Or.inr hv
    · rw [va_up_ne _ _ q] at hb; exact h.2 b w hb
theorem News.add {th th1 th2 : Th} {Ps : List Nat} (h : News th th1 Ps) {a : Nat} {v : Nat × Sh} (hn : th1 a = none) (e : th2 = va_up th1 a (some v)) : News th th2 (v.1 :: Ps) := News.new (Ps := v.1 :: Ps) ⟨h.1, fun b w hb => (h.2 b w hb).imp_right (List.mem_cons_of_mem _)⟩ hn e List.mem_cons_self
theorem News.trans {a b c : Th} {Ps : List Nat} (h1 : News a b Ps) (h2 : News b c Ps) : News a c Ps := ⟨fun x v h => h2.1 x v (h1.1 x v h), fun x v h => (h2.2 x v h).elim (h1.2 x v) Or.inr⟩
theorem News.mono {a b : Th} {Ps Qs : List Nat} (h : News a b Ps) (hs : ∀ j ∈ Ps, j ∈ Qs) : News a b Qs := ⟨h.1, fun x v hx => (h.2 x v hx).imp_right (hs _)⟩
theorem News.free {th th1 : Th} {Ps : List Nat} (h : News th th1 Ps) {P : Nat} (hf : FreeP th P) (hP : P ∉ Ps) : FreeP th1 P := fun b s' hb => (h.2 b _ hb).elim (hf b s') hP
/-- places outside a list are as they were -/
def Butr (S : List Nat) (rh : Rh) (ph : Ph) (ka : Ka) (rh1 : Rh) (ph1 : Ph) (ka1 : Ka) : Prop := ∀ q, q ∉ S → rh1 q = rh q ∧ ph1 q = ph q ∧ ka1 q = ka q
theorem Butr.refl {S : List Nat} {rh : Rh} {ph : Ph} {ka : Ka} : Butr S rh ph ka rh ph ka := fun _ _ => ⟨rfl, rfl, rfl⟩
theorem Butr.trans {S : List Nat} {rh rh1 rh2 : Rh} {ph ph1 ph2 : Ph} {ka ka1 ka2 : Ka} (h1 : Butr S rh ph ka rh1 ph1 ka1) (h2 : Butr S rh1 ph1 ka1 rh2 ph2 ka2) : Butr S rh ph ka rh2 ph2 ka2 := fun q hq => ⟨(h2 q hq).1.trans (h1 q hq).1, (h2 q hq).2.1.trans (h1 q hq).2.1, (h2 q hq).2.2.trans (h1 q hq).2.2⟩
theorem Butr.mono {S T : List Nat} {rh rh1 : Rh} {ph ph1 : Ph} {ka ka1 : Ka} (h : Butr S rh ph ka rh1 ph1 ka1) (hs : ∀ j ∈ S, j ∈ T) : Butr T rh ph ka rh1 ph1 ka1 := fun q hq => h q (fun z => hq (hs q z))
theorem Butr.new {S : List Nat} {rh rh0 : Rh} {ph ph0 : Ph} {ka ka0 : Ka} {rh1 : Rh} {ph1 : Ph} {ka1 : Ka} (h : Butr S rh0 ph0 ka0 rh ph ka) {P : Nat} {r : Nat → Option Nat} {f : Nat → UInt32} {k : Row} (e1 : rh1 = up1 rh P r) (e2 : ph1 = up1 ph P f) (e3 : ka1 = up1 ka P k) (hP : P ∈ S) : Butr S rh0 ph0 ka0 rh1 ph1 ka1 := h.trans (by
  subst e1; subst e2; subst e3
  exact fun q hq => ⟨up1_a _ _ (fun z => hq (z ▸ hP)), up1_a _ _ (fun z => hq (z ▸ hP)), up1_a _ _ (fun z => hq (z ▸ hP))⟩)
theorem Butr.put {S : List Nat} {rh rh0 rh1 : Rh} {ph ph0 : Ph} {ka ka0 : Ka} (h : Butr S rh0 ph0 ka0 rh ph ka) {P k : Nat} {b : Option Nat} (e : rh1 = up2 rh P k b) (hP : P ∈ S) : Butr S rh0 ph0 ka0 rh1 ph ka := h.trans (by
  subst e
  exact fun q hq => ⟨up2_a _ _ _ (fun z => hq (z ▸ hP)), rfl, rfl⟩)
theorem Butr.up {S : List Nat} {rh rh0 : Rh} {ph ph0 : Ph} {ka ka0 ka1 : Ka} (h : Butr S rh0 ph0 ka0 rh ph ka) {P k : Nat} {v : Int32} (e : ka1 = up2 ka P k v) (hP : P ∈ S) : Butr S rh0 ph0 ka0 rh ph ka1 := h.trans (by
  subst e
  exact fun q hq => ⟨rfl, rfl, up2_a _ _ _ (fun z => hq (z ▸ hP))⟩)
