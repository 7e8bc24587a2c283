/-! System.arraycopy over the world -/
set_option maxRecDepth 100000
theorem gE_iF {t : Nat} (h : t < 5) (kp : Nat → Int32) (rp : Nat → Option Nat) (pp : Nat → UInt32) : gE t kp rp pp = fun j => .int (kp j) := by funext j; unfold gE; rw [if_pos h]
theorem gE_fF (kp : Nat → Int32) (rp : Nat → Option Nat) (pp : Nat → UInt32) : gE 5 kp rp pp = fun j => .float (pp j) := by funext j; unfold gE; rw [if_neg (by decide), if_pos rfl]
theorem gE_qF {t : Nat} (h : 5 < t) (kp : Nat → Int32) (rp : Nat → Option Nat) (pp : Nat → UInt32) : gE t kp rp pp = fun j => va_rf (rp j) := by funext j; unfold gE; rw [if_neg (by omega), if_neg (by omega)]
theorem nn_nI {n : Nat} (h : n < 2 ^ 31) : (nI n).toInt = ((nI n).toNatClampNeg : Int) := by rw [nI_toInt h, nI_clamp h]
section RC
variable {p : Program} {l : Launch} {e : Env} {R : Room} {s : State} {m : MethodId} {args : Array Value} {below : List Frame} {meth : Method} {c : Code} {H : Heap} {locs : List Loc} {cells slots : Nat} {Q : State → Prop}
variable {cc : ByteArray} {nL pc : Nat} {own : String} {ls : Array Slot} {rest : List Value} {G : GG} {th : Th} {rh : Rh} {ph : Ph} {ka : Ka}
theorem cpy_core {α : Type} (mk : α → Value) (B : Cx G p s m args meth c cc nL own) {a0 a t n0 n1 : Nat} {ty : FieldType} {f g : Nat → α} (hc0 : H[a0]? = some (arrV (G.2.1 t) n0 (fun j => mk (f j)))) (hc1 : H[a]? = some (arrV (G.2.1 t) n1 (fun j => mk (g j)))) (ht : (gTys G)[t]? = some (G.2.1 t, ty))
    {sp dp n : Nat} (hsp : sp < 2 ^ 31) (hdp : dp < 2 ^ 31) (hn : n < 2 ^ 31) (h4 : sp + n ≤ n0) (h5 : dp + n ≤ n1) {index : Nat} (q : Cond.methodLink own index arraycopyName ∈ lw_all) (hl : ls.size = nL)
    (hvals : ∀ T : State, T.heap = H → ∀ vm' : Vm, s.vm.Alike vm' → ∀ (dComp : ClassId) (kd : Class), s.vm.classes[G.2.1 t]? = some kd → kd.kind = .array dComp ty → ∀ i, i < n → fits ty (mk (f (sp + i))) = true ∧ (T.setVm vm').takes dComp (mk (f (sp + i))))
    (hframes : 1 ≤ R.frames) (hlocals : (rest.map fun v => v.category).sum + (nativeFrameWords "java/lang/System" "arraycopy" 5 + 11) ≤ R.locals) (hdg : decode cc pc = .ok (.invokestatic index, 3))
    (kk : ∀ (H1 : Heap) (locs1 : List Loc), H1[a]? = some (arrV (G.2.1 t) n1 (fun j => mk (va_cpy f g sp dp n j))) → H1.size = H.size → (∀ q : Nat, q ≠ a → H1[q]? = H[q]?) → (∀ l ∈ locs1, l ∈ locs ∨ l.base = a) → W p l e R s m args below meth c H1 locs1 cells slots Q (F0 m (pc + 3) ls rest)) :
    W p l e R s m args below meth c H locs cells slots Q (F0 m pc ls (.int (nI n) :: .int (nI dp) :: .ref a :: .int (nI sp) :: .ref a0 :: rest)) := by
  intro T hT X
  have hK := B.kn.K
  obtain ⟨-, k0, hk0, cm0, hkk0⟩ := (hK.2 t _ ht).1 n0 (fun j => mk (f j))
  obtain ⟨-, k1, hk1, cm1, hkk1⟩ := (hK.2 t _ ht).1 n1 (fun j => mk (g j))
  have e1 : (nI sp).toNatClampNeg = sp := nI_clamp hsp
  have e2 : (nI dp).toNatClampNeg = dp := nI_clamp hdp
  have e3 : (nI n).toNatClampNeg = n := nI_clamp hn
  obtain ⟨vm', X', step⟩ := X.arraycopy B.1 B.2.2.2.1 (B.ts _ q) (B.ts _ q723) (B.ts _ q722) (B.ts _ q89) (src := a0) (dst := a) (cs := arrV (G.2.1 t) n0 (fun j => mk (f j))) (cd := arrV (G.2.1 t) n1 (fun j => mk (g j))) (srcPos := nI sp) (destPos := nI dp) (n := nI n) (by rw [hT]; exact hc0) (by rw [hT]; exact hc1)
    (fun _ h => by cases h) (fun _ h => by cases h) (fun h => by cases h) (fun h => by cases h) hk0 hk1 hkk0 hkk1 (by simp) (nI_pos hsp) (nI_pos hdp) (nI_pos hn)
    (by rw [nI_toInt hsp, nI_toInt hn, arrV_size]; omega) (by rw [nI_toInt hdp, nI_toInt hn, arrV_size]; omega)
    (fun vm₁ hal i hi => by
      rw [e3] at hi
      have e : (arrV (G.2.1 t) n0 (fun j => mk (f j))).slots.getD ((nI sp).toNatClampNeg + i) .null = mk (f (sp + i)) := by
        rw [e1, Array.getD_eq_getD_getElem?, arrV_read _ _ (by omega)]
        rfl
      rw [e]
      exact hvals T hT vm₁ hal cm1 k1 hk1 hkk1 i hi)
    (g := F0 m pc ls (.int (nI n) :: .int (nI dp) :: .ref a :: .int (nI sp) :: .ref a0 :: rest)) rfl (by rw [B.2.2.1]; exact hl) (rest := rest) rfl (by rw [B.2.1]; exact hdg) hframes (by show 2 * 0 + _ + _ ≤ _; omega)
  have ec : copied (arrV (G.2.1 t) n0 (fun j => mk (f j))) (arrV (G.2.1 t) n1 (fun j => mk (g j))) (nI sp) (nI dp) (nI n) = arrV (G.2.1 t) n1 (fun j => mk (va_cpy f g sp dp n j)) := by
    have := va_copied mk (G.2.1 t) (G.2.1 t) f g (n1 := n1) (dp := dp) (show sp + n ≤ n0 from h4)
    show (arrV (G.2.1 t) n1 (fun j => mk (g j))).storeRun (nI dp).toNatClampNeg ((arrV (G.2.1 t) n0 (fun j => mk (f j))).stretch (nI sp).toNatClampNeg (nI n).toNatClampNeg) = _
    rw [e1, e2, e3]
    exact this
  rw [ec] at X' step
  have hlt : a < H.size := (Array.getElem?_eq_some_iff.mp hc1).1
  have hheap : ((T.setVm vm').setCell a (arrV (G.2.1 t) n1 (fun j => mk (va_cpy f g sp dp n j)))).heap = H.setIfInBounds a (arrV (G.2.1 t) n1 (fun j => mk (va_cpy f g sp dp n j))) := by rw [← hT]; rfl
  obtain ⟨t', a1, b1⟩ := kk _ _ (show (H.setIfInBounds a _)[a]? = some _ by simp [Array.getElem?_setIfInBounds, hlt]) (by simp) (fun q hq => by simp [Array.getElem?_setIfInBounds, Ne.symm hq]) (fun l hl => by
    rcases List.mem_append.mp hl with h | h
    · exact Or.inl h
    · obtain ⟨z, -, hz⟩ := List.mem_map.mp h
      rw [← hz]
      exact Or.inr rfl) _ hheap X'
  exact ⟨t', step t' a1, b1⟩
theorem r_cpi (B : Cx G p s m args meth c cc nL own) (hM : Md G th rh ph ka H locs) {a0 a pl0 pl1 t n0 n1 : Nat} {ty : FieldType} (ha0 : th a0 = some (pl0, .inr (t, n0))) (ha1 : th a = some (pl1, .inr (t, n1))) (ht : (gTys G)[t]? = some (G.2.1 t, ty)) (h5t : t < 5) (sp dp n : Nat) (hsp : sp < 2 ^ 31) (hdp : dp < 2 ^ 31) (hn : n < 2 ^ 31) (h4 : sp + n ≤ n0) (h5 : dp + n ≤ n1) (hfit : ∀ i, i < n → fits ty (.int (ka pl0 (sp + i))) = true) {index : Nat} (q : Cond.methodLink own index arraycopyName ∈ lw_all) (hl : ls.size = nL)
    (hframes : 1 ≤ R.frames) (hlocals : (rest.map fun v => v.category).sum + (nativeFrameWords "java/lang/System" "arraycopy" 5 + 11) ≤ R.locals) (hdg : decode cc pc = .ok (.invokestatic index, 3))
    (kk : ∀ (ka1 : Ka) (H : Heap) (locs : List Loc), ka1 = up1 ka pl1 (va_cpy (ka pl0) (ka pl1) sp dp n) → Md G th rh ph ka1 H locs → W p l e R s m args below meth c H locs cells slots Q (F0 m (pc + 3) ls rest)) :
    W p l e R s m args below meth c H locs cells slots Q (F0 m pc ls (.int (nI n) :: .int (nI dp) :: .ref a :: .int (nI sp) :: .ref a0 :: rest)) := by
  have h0 : H[a0]? = some (arrV (G.2.1 t) n0 (gE t (ka pl0) (rh pl0) (ph pl0))) := (hM.1.1 a0 pl0 _ ha0).2.1
  have h1 : H[a]? = some (arrV (G.2.1 t) n1 (gE t (ka pl1) (rh pl1) (ph pl1))) := (hM.1.1 a pl1 _ ha1).2.1
  rw [gE_iF h5t] at h0 h1
  refine cpy_core (fun v => .int v) B h0 h1 ht hsp hdp hn h4 h5 q hl (fun T hT vm' _ dC kd _ _ i hi => ⟨hfit i hi, trivial⟩) hframes hlocals hdg (fun H1 locs1 g1 g2 g3 g4 => kk _ H1 locs1 rfl ⟨hM.1.write ha1 (fun q hq => ⟨up1_a _ _ hq, rfl, rfl⟩) ?_ g2 g3, fun q hq => ?_⟩)
  · show H1[a]? = some (arrV (G.2.1 t) n1 (gE t _ _ _))
    rw [gE_iF h5t, up1_s]
    exact g1
  · rcases g4 q hq with h | h
    · exact hM.2 q h
    · rw [h]; exact hM.1.old ha1
theorem r_cpf (B : Cx G p s m args meth c cc nL own) (hM : Md G th rh ph ka H locs) {a0 a pl0 pl1 n0 n1 : Nat} (ha0 : th a0 = some (pl0, .inr (5, n0))) (ha1 : th a = some (pl1, .inr (5, n1))) (sp dp n : Nat) (hsp : sp < 2 ^ 31) (hdp : dp < 2 ^ 31) (hn : n < 2 ^ 31) (h4 : sp + n ≤ n0) (h5 : dp + n ≤ n1) {index : Nat} (q : Cond.methodLink own index arraycopyName ∈ lw_all) (hl : ls.size = nL)
    (hframes : 1 ≤ R.frames) (hlocals : (rest.map fun v => v.category).sum + (nativeFrameWords "java/lang/System" "arraycopy" 5 + 11) ≤ R.locals) (hdg : decode cc pc = .ok (.invokestatic index, 3))
    (kk : ∀ (ph1 : Ph) (H : Heap) (locs : List Loc), ph1 = up1 ph pl1 (va_cpy (ph pl0) (ph pl1) sp dp n) → Md G th rh ph1 ka H locs → W p l e R s m args below meth c H locs cells slots Q (F0 m (pc + 3) ls rest)) :
    W p l e R s m args below meth c H locs cells slots Q (F0 m pc ls (.int (nI n) :: .int (nI dp) :: .ref a :: .int (nI sp) :: .ref a0 :: rest)) := by
  have h0 : H[a0]? = some (arrV (G.2.1 5) n0 (gE 5 (ka pl0) (rh pl0) (ph pl0))) := (hM.1.1 a0 pl0 _ ha0).2.1
  have h1 : H[a]? = some (arrV (G.2.1 5) n1 (gE 5 (ka pl1) (rh pl1) (ph pl1))) := (hM.1.1 a pl1 _ ha1).2.1
  rw [gE_fF] at h0 h1
  refine cpy_core (ty := .float) (fun v => .float v) B h0 h1 rfl hsp hdp hn h4 h5 q hl (fun T hT vm' _ dC kd _ _ i hi => ⟨rfl, trivial⟩) hframes hlocals hdg (fun H1 locs1 g1 g2 g3 g4 => kk _ H1 locs1 rfl ⟨hM.1.write ha1 (fun q hq => ⟨rfl, rfl, up1_a _ _ hq⟩) ?_ g2 g3, fun q hq => ?_⟩)
  · show H1[a]? = some (arrV (G.2.1 5) n1 (gE 5 _ _ _))
    rw [gE_fF, up1_s]
    exact g1
  · rcases g4 q hq with h | h
    · exact hM.2 q h
    · rw [h]; exact hM.1.old ha1
/-- texts come to another array of texts -/
theorem r_cpx (B : Cx G p s m args meth c cc nL own) (hM : Md G th rh ph ka H locs) {a0 a pl0 pl1 n0 n1 : Nat} (ha0 : th a0 = some (pl0, .inr (7, n0))) (ha1 : th a = some (pl1, .inr (7, n1))) (sp dp n : Nat) (hsp : sp < 2 ^ 31) (hdp : dp < 2 ^ 31) (hn : n < 2 ^ 31) (h4 : sp + n ≤ n0) (h5 : dp + n ≤ n1) (hel : ∀ i, i < n → ∀ y, rh pl0 (sp + i) = some y → ∃ pl, th y = some (pl, .inl 15)) {index : Nat} (q : Cond.methodLink own index arraycopyName ∈ lw_all) (hl : ls.size = nL)
    (hframes : 1 ≤ R.frames) (hlocals : (rest.map fun v => v.category).sum + (nativeFrameWords "java/lang/System" "arraycopy" 5 + 11) ≤ R.locals) (hdg : decode cc pc = .ok (.invokestatic index, 3))
    (kk : ∀ (rh1 : Rh) (H : Heap) (locs : List Loc), rh1 = up1 rh pl1 (va_cpy (rh pl0) (rh pl1) sp dp n) → Md G th rh1 ph ka H locs → W p l e R s m args below meth c H locs cells slots Q (F0 m (pc + 3) ls rest)) :
    W p l e R s m args below meth c H locs cells slots Q (F0 m pc ls (.int (nI n) :: .int (nI dp) :: .ref a :: .int (nI sp) :: .ref a0 :: rest)) := by
  have h0 : H[a0]? = some (arrV (G.2.1 7) n0 (gE 7 (ka pl0) (rh pl0) (ph pl0))) := (hM.1.1 a0 pl0 _ ha0).2.1
  have h1 : H[a]? = some (arrV (G.2.1 7) n1 (gE 7 (ka pl1) (rh pl1) (ph pl1))) := (hM.1.1 a pl1 _ ha1).2.1
  rw [gE_qF (by decide)] at h0 h1
  refine cpy_core (ty := .object "LevelCellars$Text") va_rf B h0 h1 rfl hsp hdp hn h4 h5 q hl (fun T hT vm' hal dC kd hkd hkk i hi => ?_) hframes hlocals hdg (fun H1 locs1 g1 g2 g3 g4 => kk _ H1 locs1 rfl ⟨hM.1.write ha1 (fun q hq => ⟨rfl, up1_a _ _ hq, rfl⟩) ?_ g2 g3, fun q hq => ?_⟩)
  · cases hy : rh pl0 (sp + i) with
    | none => exact ⟨rfl, trivial⟩
    | some y =>
      obtain ⟨pl, hpl⟩ := hel i hi y hy
      obtain ⟨cellV, g1, g2, g3⟩ := hM.recv B hpl (show gCl[15]? = some _ from rfl)
      obtain ⟨kA, comp, r1, r2, r3, -⟩ := (B.kn.K.2 7 (G.2.1 7, .object "LevelCellars$Text") rfl).2
      cases hkd.symm.trans r1
      cases hkk.symm.trans r2
      obtain ⟨kC, hkC, -⟩ := Vm.findClass_spec g3
      obtain ⟨kE, hkE, -⟩ := Vm.findClass_spec r3
      obtain ⟨kC', hkC', -⟩ := hal.2.2 _ _ hkC
      obtain ⟨kE', hkE', -⟩ := hal.2.2 _ _ hkE
      refine ⟨rfl, cellV, (show T.heap[y]? = some cellV by rw [hT]; exact g1), (fun q h => by rw [h] at g2; cases g2), ⟨kC', hkC'⟩, ⟨kE', hkE'⟩, ?_⟩
      show vm'.assignable _ _ = true
      rw [hal.assignable]
      have : cellV.cls = dC := Option.some.inj (g3.symm.trans r3)
      have hcl := (B.kn.K.1 15 _ (show gCl[15]? = some _ from rfl)).2
      have h15 : G.1.1 15 = dC := Option.some.inj (hcl.1.symm.trans r3)
      rw [this, ← h15]
      exact va_assign hcl
  · show H1[a]? = some (arrV (G.2.1 7) n1 (gE 7 _ _ _))
    rw [gE_qF (by decide), up1_s]
    exact g1
  · rcases g4 q hq with h | h
    · exact hM.2 q h
    · rw [h]; exact hM.1.old ha1
end RC
