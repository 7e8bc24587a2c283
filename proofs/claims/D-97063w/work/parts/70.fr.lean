/-! A TOWN IS LAID ANEW: what stays; a new cellar comes to its place -/
set_option maxRecDepth 100000
abbrev CelP (j pl : Nat) : Prop := (100 + 8 * j ≤ pl ∧ pl < 108 + 8 * j) ∨ (200 + 8 * j ≤ pl ∧ pl < 208 + 8 * j)
abbrev TwP (j pl : Nat) : Prop := pl = 30 + j ∨ (40 + 10 * j ≤ pl ∧ pl ≤ 45 + 10 * j) ∨ CelP j pl
/-- all but town j stays -/
def FrT (j : Nat) (th : Th) (rh : Rh) (ph : Ph) (ka : Ka) (th' : Th) (rh' : Rh) (ph' : Ph) (ka' : Ka) : Prop :=
  (∀ a pl sh, th a = some (pl, sh) → ¬ CelP j pl → th' a = some (pl, sh) ∧ (¬ TwP j pl → rh' pl = rh pl ∧ ph' pl = ph pl ∧ ka' pl = ka pl)) ∧ ∀ a pl sh, th' a = some (pl, sh) → ¬ CelP j pl → th a = some (pl, sh)
section
variable {j : Nat} {th th' th'' : Th} {rh rh' rh'' : Rh} {ph ph' ph'' : Ph} {ka ka' ka'' : Ka}
theorem FrT.refl : FrT j th rh ph ka th rh ph ka := ⟨fun _ _ _ h _ => ⟨h, fun _ => ⟨rfl, rfl, rfl⟩⟩, fun _ _ _ h _ => h⟩
theorem FrT.trans (h1 : FrT j th rh ph ka th' rh' ph' ka') (h2 : FrT j th' rh' ph' ka' th'' rh'' ph'' ka'') : FrT j th rh ph ka th'' rh'' ph'' ka'' := by
  refine ⟨fun a pl sh h hc => ?_, fun a pl sh h hc => h1.2 a pl sh (h2.2 a pl sh h hc) hc⟩
  obtain ⟨a1, a2⟩ := h1.1 a pl sh h hc
  obtain ⟨b1, b2⟩ := h2.1 a pl sh a1 hc
  exact ⟨b1, fun ht => ⟨(b2 ht).1.trans (a2 ht).1, (b2 ht).2.1.trans (a2 ht).2.1, (b2 ht).2.2.trans (a2 ht).2.2⟩⟩
theorem FrT.k (h : ∀ q, ¬ TwP j q → ka' q = ka q) : FrT j th rh ph ka th rh ph ka' := ⟨fun _ pl _ h1 _ => ⟨h1, fun ht => ⟨rfl, rfl, h pl ht⟩⟩, fun _ _ _ h _ => h⟩
theorem FrT.r (h : ∀ q, ¬ TwP j q → rh' q = rh q) : FrT j th rh ph ka th rh' ph ka := ⟨fun _ pl _ h1 _ => ⟨h1, fun ht => ⟨h pl ht, rfl, rfl⟩⟩, fun _ _ _ h _ => h⟩
theorem FrT.keeps (h : FrT j th rh ph ka th' rh' ph' ka') (hj : j ≤ 2) : Keeps th rh ka th' rh' ka' := fun a sh ha => by
  obtain ⟨a1, a2⟩ := h.1 a _ sh ha (by omega)
  exact ⟨a1, (a2 (by omega)).1, (a2 (by omega)).2.2⟩
theorem FrT.free (h : FrT j th rh ph ka th' rh' ph' ka') {P : Nat} (hP : ¬ CelP j P) (hf : FreeP th P) : FreeP th' P := fun b s' hb => hf b s' (h.2 b P s' hb hP)
end
/-- the addresses are the same but for town j's cellars -/
def SameA (j : Nat) (A B : XA) : Prop := B.x = A.x ∧ B.ar = A.ar ∧ B.tw = A.tw ∧ B.ta = A.ta ∧ ∀ i, i ≠ j → B.ce i = A.ce i ∧ B.wi i = A.wi i
theorem SameA.refl {j : Nat} {A : XA} : SameA j A A := ⟨rfl, rfl, rfl, rfl, fun _ _ => ⟨rfl, rfl⟩⟩
theorem SameA.trans {j : Nat} {A B C : XA} (h1 : SameA j A B) (h2 : SameA j B C) : SameA j A C := ⟨h2.1.trans h1.1, h2.2.1.trans h1.2.1, h2.2.2.1.trans h1.2.2.1, h2.2.2.2.1.trans h1.2.2.2.1, fun i hi => ⟨(h2.2.2.2.2 i hi).1.trans (h1.2.2.2.2 i hi).1, (h2.2.2.2.2 i hi).2.trans (h1.2.2.2.2 i hi).2⟩⟩
section
variable {j i : Nat} {th th' : Th} {rh rh' : Rh} {ph ph' : Ph} {ka ka' : Ka} {A B : XA} {K : Nat → Option Nat} {t : Row}
theorem LayO.fr (h : LayO th rh A) (hf : FrT j th rh ph ka th' rh' ph' ka') (hA : SameA j A B) (hj : j ≤ 2) : LayO th' rh' B := by
  obtain ⟨e1, e2, e3, e4, e5⟩ := hA
  obtain ⟨a1, a2⟩ := hf.1 _ _ _ h.1 (by omega)
  refine ⟨by rw [e1]; exact a1, fun f tt n hx => ?_⟩
  obtain ⟨b1, b2⟩ := h.2 f tt n hx
  have hlt : f < 20 := by
    unfold xA at hx
    split at hx <;> first | omega | cases hx
  rw [e2, (a2 (by omega)).1]
  exact ⟨b1, (hf.1 _ _ _ b2 (by omega)).1⟩
theorem tPl_r {j f : Nat} : 40 + 10 * j ≤ tPl j f ∧ tPl j f ≤ 45 + 10 * j := by
  unfold tPl
  split <;> omega
theorem LayW.fr (h : LayW th rh A i) (hf : FrT j th rh ph ka th' rh' ph' ka') (hA : SameA j A B) (hj : j ≤ 2) (hi : i ≤ 2) (hij : i ≠ j) : LayW th' rh' B i := by
  obtain ⟨e1, e2, e3, e4, e5⟩ := hA
  obtain ⟨a1, a2⟩ := hf.1 _ _ _ h.1 (by omega)
  have hr := (a2 (by omega)).1
  refine ⟨by rw [e3]; exact a1, fun f tt n hx => ?_, by rw [hr, e1]; exact h.2.2⟩
  obtain ⟨b1, b2⟩ := h.2.1 f tt n hx
  have hb := tPl_r (j := i) (f := f)
  rw [e4, hr]
  exact ⟨b1, (hf.1 _ _ _ b2 (by omega)).1⟩
theorem LayC.fr {x c w P Q kd : Nat} (h : LayC th rh x c w P Q kd) (hf : FrT j th rh ph ka th' rh' ph' ka') (hP : ¬ TwP j P) (hQ : ¬ CelP j Q) : LayC th' rh' x c w P Q kd := by
  obtain ⟨a1, a2⟩ := hf.1 _ _ _ h.1 (fun z => hP (Or.inr (Or.inr z)))
  refine ⟨a1, by rw [(a2 hP).1]; exact h.2.1, by rw [(a2 hP).1]; exact h.2.2.1, (hf.1 _ _ _ h.2.2.2.1 hQ).1, h.2.2.2.2⟩
theorem arr44 (h : LayW th rh A i) : th (A.ta i 11) = some (44 + 10 * i, .inr (6, 8)) := (h.2.1 11 _ _ rfl).2
theorem arr45 (h : LayW th rh A i) : th (A.ta i 12) = some (45 + 10 * i, .inr (7, 14)) := (h.2.1 12 _ _ rfl).2
theorem LayK.fr (h : LayK th rh A i K) (hW : LayW th rh A i) (hf : FrT j th rh ph ka th' rh' ph' ka') (hA : SameA j A B) (hj : j ≤ 2) (hi : i ≤ 2) (hij : i ≠ j) : LayK th' rh' B i K := by
  intro k hk
  have hr : rh' (44 + 10 * i) = rh (44 + 10 * i) := ((hf.1 _ _ _ (arr44 hW) (by omega)).2 (by omega)).1
  have h1 := h k hk
  cases e : K k with
  | none => rw [e] at h1; show rh' _ _ = _; rw [hr]; exact h1
  | some kd =>
    rw [e] at h1
    obtain ⟨q1, q2⟩ := h1
    have e5 := hA.2.2.2.2 i hij
    show rh' _ _ = _ ∧ _
    rw [hr, e5.1, e5.2, hA.1]
    exact ⟨q1, q2.fr hf (by omega) (by omega)⟩
/-- another town is as it was -/
theorem Tn.fr (h : Tn th rh ka A i K t) (hf : FrT j th rh ph ka th' rh' ph' ka') (hA : SameA j A B) (hj : j ≤ 2) (hi : i ≤ 2) (hij : i ≠ j) : Tn th' rh' ka' B i K t := by
  obtain ⟨h1, h2, h3, h4, h5, h6, h7⟩ := h
  have hk : ∀ a pl sh, th a = some (pl, sh) → ¬ TwP j pl → ka' pl = ka pl := fun a pl sh ha ht => ((hf.1 a pl sh ha (fun z => ht (Or.inr (Or.inr z)))).2 ht).2.2
  refine ⟨h1.fr hf hA hj, h2.fr hf hA hj hi hij, h3.fr h2 hf hA hj hi hij, h4, h5, ?_, ?_⟩
  · obtain ⟨r1, r2, r3⟩ := h6
    refine ⟨by rw [hk _ _ _ h2.1 (by omega)]; exact r1, fun p hp => ?_, fun k hkn => ?_⟩
    · rw [hk _ (40 + 10 * i) _ (h2.2.1 7 _ _ rfl).2 (by omega), hk _ (41 + 10 * i) _ (h2.2.1 8 _ _ rfl).2 (by omega), hk _ (42 + 10 * i) _ (h2.2.1 9 _ _ rfl).2 (by omega), hk _ (43 + 10 * i) _ (h2.2.1 10 _ _ rfl).2 (by omega)]
      exact r2 p hp
    · obtain ⟨kd, hke, -⟩ := h4 k hkn
      have h8 : k < 8 := by have := h5.1.2; omega
      obtain ⟨-, hC⟩ := h3.at h8 hke
      rw [hk _ _ _ hC.1 (by omega), hk _ _ _ hC.2.2.2.1 (by omega)]
      exact r3 k hkn
  · rw [hA.1]
    exact h7.keeps (hf.keeps hj) (fun q hq => by rw [((hf.1 _ _ _ (arr45 h2) (by omega)).2 (by omega)).1]) (fun _ _ => rfl) rfl
end
/-- a new cellar comes to its place, what lay there is forgotten -/
def plc (th : Th) (b w P Q ci : Nat) : Th := fun a => if a = b then some (P, .inl ci) else if a = w then some (Q, .inr (0, 3)) else (match th a with
  | some v => if v.1 = P ∨ v.1 = Q then none else some v
  | none => none)
section
variable {G : GG} {th : Th} {rh : Rh} {ph : Ph} {ka : Ka} {H : Heap}
theorem Mem.sub {th' : Th} (h : Mem G th rh ph ka H) (hs : ∀ a v, th' a = some v → th a = some v) : Mem G th' rh ph ka H := ⟨fun a pl sh ha => h.1 a pl sh (hs a _ ha), fun a b pl s1 s2 ha hb => h.2.1 a b pl s1 s2 (hs a _ ha) (hs b _ hb), h.2.2⟩
theorem Mem.plc {b w P Q ci : Nat} (h : Mem G th rh ph ka H) (hb : th b = some (10000 + b, .inl ci)) (hw : th w = some (10000 + w, .inr (0, 3))) (hP : P < 10000) (hQ : Q < 10000) (hPQ : P ≠ Q) :
    Mem G (plc th b w P Q ci) (up1 (up1 rh P (rh (10000 + b))) Q (rh (10000 + w))) (up1 (up1 ph P (ph (10000 + b))) Q (ph (10000 + w))) (up1 (up1 ka P (ka (10000 + b))) Q (ka (10000 + w))) H := by
  have hbw : b ≠ w := fun z => by rw [z, hw] at hb; cases hb
  obtain ⟨th1, e1⟩ : ∃ th1 : Th, th1 = fun a => (match th a with
    | some v => if v.1 = P ∨ v.1 = Q then none else some v
    | none => none) := ⟨_, rfl⟩
  have h1 : Mem G th1 rh ph ka H := h.sub (fun a v ha => by
    rw [e1] at ha
    cases q : th a with
    | none => simp [q] at ha
    | some v' =>
      simp only [q] at ha
      split at ha
      · cases ha
      · exact ha)
  have hf : ∀ R, R = P ∨ R = Q → FreeP th1 R := fun R hR a s' ha => by
    rw [e1] at ha
    cases q : th a with
    | none => simp [q] at ha
    | some v' =>
      simp only [q] at ha
      split at ha
      · cases ha
      · rename_i c
        cases ha
        exact c hR
  have hb1 : th1 b = some (10000 + b, .inl ci) := by rw [e1]; simp only [hb]; rw [if_neg (by show ¬ (10000 + b = P ∨ 10000 + b = Q); omega)]
  have hw1 : th1 w = some (10000 + w, .inr (0, 3)) := by rw [e1]; simp only [hw]; rw [if_neg (by show ¬ (10000 + w = P ∨ 10000 + w = Q); omega)]
  have h2 := h1.move hb1 (hf P (Or.inl rfl)) hP
  have h3 := h2.move (a := w) (pl := 10000 + w) (pl' := Q) (sh := .inr (0, 3)) (by rw [va_up_ne _ _ (Ne.symm hbw)]; exact hw1) (fun a s' ha => by
    by_cases z : a = b
    · rw [z, va_up_self] at ha; cases ha; exact hPQ rfl
    · rw [va_up_ne _ _ z] at ha; exact hf Q (Or.inr rfl) a s' ha) hQ
  rw [up1_a _ _ (show 10000 + w ≠ P by omega), up1_a _ _ (show 10000 + w ≠ P by omega), up1_a _ _ (show 10000 + w ≠ P by omega)] at h3
  have e2 : va_up (va_up th1 b (some (P, .inl ci))) w (some (Q, .inr (0, 3))) = _root_.Jvm.Pilot.CLevelCellarsLaw_law_r8225_edb9db.plc th b w P Q ci := by
    funext a
    unfold _root_.Jvm.Pilot.CLevelCellarsLaw_law_r8225_edb9db.plc
    by_cases z1 : a = b
    · rw [if_pos z1, z1, va_up_ne _ _ hbw, va_up_self]
    · rw [if_neg z1]
      by_cases z2 : a = w
      · rw [if_pos z2, z2, va_up_self]
      · rw [if_neg z2, va_up_ne _ _ z2, va_up_ne _ _ z1, e1]
  rw [e2] at h3
  exact h3
theorem Md.off {locs : List Loc} (hM : Md G th rh ph ka H locs) {a b pl : Nat} {sh : Sh} (ha : th a = some (pl, sh)) (hb : th b = none) : pl ≠ 10000 + b := fun z => by
  have := (hM.1.1 a pl sh ha).2.2 (by omega)
  have e : a = b := by omega
  rw [e, hb] at ha
  cases ha
end
