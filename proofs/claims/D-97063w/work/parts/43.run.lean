/-! TEXTS: the machine, as a plain function -/
set_option maxRecDepth 100000
theorem lend_le {tp : Row} {n k : Nat} (h : k ≤ n) : k ≤ lend tp n k ∧ lend tp n k ≤ n := leT_le (by omega)
theorem lend_lt {tp : Row} {n k : Nat} (h : ltr tp n k) : k < lend tp n k := by
  rw [← lend_s h]
  exact (lend_le (by have := h.1; omega)).1
theorem fend_le {tp : Row} {n k : Nat} (h : k ≤ n) : k ≤ (fend tp n k).1 ∧ (fend tp n k).1 ≤ n := fgT_le (by omega)
theorem fend_lt {tp : Row} {n k : Nat} (h : fig tp n k) : k < (fend tp n k).1 := by
  unfold fend
  rw [← fgT_s h]
  exact (fgT_le (by have := h.1; omega)).1
theorem skp_le {tp : Row} {n k : Nat} (h : k ≤ n) : k ≤ skp tp n k ∧ skp tp n k ≤ n := by
  have := skT_le (tp := tp) (n := n) (f := n - k) (k := k) (by omega)
  exact ⟨this.1, this.2.1⟩
/-- a token further -/
theorem goF_adv {tp g : Row} {n x : Nat} (hn : n ≤ 96) (h8 : g 8 = nI n) (h9 : g 9 = nI x) (hxn : x ≤ n) : ∃ f' x' : Nat, goF tp g 10 = nI f' ∧ goF tp g 9 = nI x' ∧ x ≤ f' ∧ f' ≤ x' ∧ x' ≤ n ∧ (goF tp g 11 ≠ 0 → f' < x') := by
  obtain ⟨h1, h2⟩ := skp_le (tp := tp) hxn
  rw [goF_at (tp := tp) h8 h9 (by omega) (by omega) rfl]
  generalize skp tp n x = a at h1 h2
  unfold goG
  by_cases c1 : a = n
  · rw [if_pos c1]
    exact ⟨a, a, by simp [rw1, va_up], by simp [rw1, va_up], h1, Nat.le_refl _, h2, fun z => absurd (rw1_s _ _ _) z⟩
  · rw [if_neg c1]
    by_cases c2 : ltr tp n a
    · rw [if_pos c2]
      exact ⟨a, lend tp n a, by simp [rw1, va_up], by simp [rw1, va_up], h1, (lend_le h2).1, (lend_le h2).2, fun _ => lend_lt c2⟩
    · rw [if_neg c2]
      by_cases c3 : fig tp n a
      · rw [if_pos c3]
        exact ⟨a, (fend tp n a).1, by simp [rw1, va_up], by simp [rw1, va_up], h1, (fend_le h2).1, (fend_le h2).2, fun _ => fend_lt c3⟩
      · rw [if_neg c3]
        exact ⟨a, a + 1, by simp [rw1, va_up], by simp [rw1, va_up], h1, by omega, by omega, fun _ => by omega⟩
abbrev MS : Type := Row × Int32 × Nat × Nat × List Int32 × List Int32 × Row × Int32
abbrev MS.g (m : MS) : Row := m.1
abbrev MS.w (m : MS) : Int32 := m.2.1
abbrev MS.p (m : MS) : Nat := m.2.2.1
abbrev MS.q (m : MS) : Nat := m.2.2.2.1
abbrev MS.Y (m : MS) : List Int32 := m.2.2.2.2.1
abbrev MS.Z (m : MS) : List Int32 := m.2.2.2.2.2.1
abbrev MS.T (m : MS) : Row := m.2.2.2.2.2.2.1
abbrev MS.a (m : MS) : Int32 := m.2.2.2.2.2.2.2
/-- what the machine comes to: all is well: fields, code, atoms; or it fails at these fields -/
abbrev MR : Type := (Row × List Int32 × Int32) ⊕ Row
def MR.g : MR → Row
  | .inl x => x.1
  | .inr g => g
noncomputable def ifC {α : Type} (P : Prop) (a b : α) : α := @ite α P (Classical.propDecidable P) a b
theorem ifC_t {α : Type} {P : Prop} {a b : α} (h : P) : ifC P a b = a := if_pos h
theorem ifC_f {α : Type} {P : Prop} {a b : α} (h : ¬ P) : ifC P a b = b := if_neg h
noncomputable def stM (tp : Row) (m : MS) : MS ⊕ MR :=
  ifC (m.w = 0 ∧ m.g 11 = 0) (.inr (ifC (m.p = 0) (.inl (m.g, (setl 0 m.Y m.Z).2, m.a)) (.inr m.g)))
  (ifC (m.w ≠ 0)
    (ifC (m.g 11 = 3 ∧ m.g 12 = 33 ∧ m.q < 8) (.inl (goF tp m.g, m.w, m.p, cntN (-10 :: m.Y), -10 :: m.Y, m.Z, m.T, m.a))
    (ifC (m.g 11 = 3 ∧ m.g 12 = 40 ∧ m.p < 8) (.inl (goF tp m.g, m.w, m.p + 1, cntN (-11 :: m.Y), -11 :: m.Y, m.Z, rw1 m.T (m.p + 1) 0, m.a))
    (ifC (isPt m.g) (.inl (goF tp m.g, 0, m.p, cntN (setl 6 m.Y (ptV m.g :: m.Z)).1, (setl 6 m.Y (ptV m.g :: m.Z)).1, (setl 6 m.Y (ptV m.g :: m.Z)).2, m.T, m.a + 1))
    (.inr (.inr m.g)))))
  (ifC (m.g 11 = 3 ∧ m.g 12 = 41 ∧ 0 < m.p)
    (.inl (goF tp m.g, m.w, m.p - 1, cntN (setl 6 (setl 0 m.Y m.Z).1.tail (setl 0 m.Y m.Z).2).1, (setl 6 (setl 0 m.Y m.Z).1.tail (setl 0 m.Y m.Z).2).1, (setl 6 (setl 0 m.Y m.Z).1.tail (setl 0 m.Y m.Z).2).2, m.T, m.a))
  (ifC (sgnT (m.g 11) (m.g 12) = 0 ∨ (rankT (sgnT (m.g 11) (m.g 12)) = 3 ∧ m.T m.p ≠ 0)) (.inr (.inr m.g))
  (.inl (goF tp m.g, 1, m.p, m.q, sgnT (m.g 11) (m.g 12) :: (setl (rankT (sgnT (m.g 11) (m.g 12))) m.Y m.Z).1, (setl (rankT (sgnT (m.g 11) (m.g 12))) m.Y m.Z).2, rw1 m.T m.p (if rankT (sgnT (m.g 11) (m.g 12)) = 3 ∨ (3 < rankT (sgnT (m.g 11) (m.g 12)) ∧ m.T m.p ≠ 0) then 1 else 0), m.a)))))
noncomputable def runM (tp : Row) : Nat → MS → MR
  | 0, m => .inr m.g
  | k + 1, m => match stM tp m with
    | .inl m' => runM tp k m'
    | .inr r => r
theorem runM_more {tp : Row} {k : Nat} {m m' : MS} {r : MR} (hr : runM tp (k + 1) m = r) (h : stM tp m = .inl m') : runM tp k m' = r := by
  rw [runM, h] at hr
  exact hr
theorem runM_end {tp : Row} {k : Nat} {m : MS} {r r' : MR} (hr : runM tp (k + 1) m = r) (h : stM tp m = .inr r') : r = r' := by
  rw [runM, h] at hr
  exact hr.symm
section
variable {tp : Row} {m : MS}
theorem stM_end (h1 : m.w = 0) (h2 : m.g 11 = 0) (h3 : m.p = 0) : stM tp m = .inr (.inl (m.g, (setl 0 m.Y m.Z).2, m.a)) := by unfold stM; rw [ifC_t ⟨h1, h2⟩, ifC_t h3]
theorem stM_left (h1 : m.w = 0) (h2 : m.g 11 = 0) (h3 : m.p ≠ 0) : stM tp m = .inr (.inr m.g) := by unfold stM; rw [ifC_t ⟨h1, h2⟩, ifC_f h3]
theorem stM_not (h1 : m.w ≠ 0) (h2 : m.g 11 = 3 ∧ m.g 12 = 33 ∧ m.q < 8) : stM tp m = .inl (goF tp m.g, m.w, m.p, cntN (-10 :: m.Y), -10 :: m.Y, m.Z, m.T, m.a) := by
  unfold stM; rw [ifC_f (fun z => h1 z.1), ifC_t h1, ifC_t h2]
theorem stM_par (h1 : m.w ≠ 0) (h2 : ¬ (m.g 11 = 3 ∧ m.g 12 = 33 ∧ m.q < 8)) (h3 : m.g 11 = 3 ∧ m.g 12 = 40 ∧ m.p < 8) : stM tp m = .inl (goF tp m.g, m.w, m.p + 1, cntN (-11 :: m.Y), -11 :: m.Y, m.Z, rw1 m.T (m.p + 1) 0, m.a) := by
  unfold stM; rw [ifC_f (fun z => h1 z.1), ifC_t h1, ifC_f h2, ifC_t h3]
theorem stM_part (h1 : m.w ≠ 0) (h2 : ¬ (m.g 11 = 3 ∧ m.g 12 = 33 ∧ m.q < 8)) (h3 : ¬ (m.g 11 = 3 ∧ m.g 12 = 40 ∧ m.p < 8)) (h4 : isPt m.g) : stM tp m = .inl (goF tp m.g, 0, m.p, cntN (setl 6 m.Y (ptV m.g :: m.Z)).1, (setl 6 m.Y (ptV m.g :: m.Z)).1, (setl 6 m.Y (ptV m.g :: m.Z)).2, m.T, m.a + 1) := by
  unfold stM; rw [ifC_f (fun z => h1 z.1), ifC_t h1, ifC_f h2, ifC_f h3, ifC_t h4]
theorem stM_nope (h1 : m.w ≠ 0) (h2 : ¬ (m.g 11 = 3 ∧ m.g 12 = 33 ∧ m.q < 8)) (h3 : ¬ (m.g 11 = 3 ∧ m.g 12 = 40 ∧ m.p < 8)) (h4 : ¬ isPt m.g) : stM tp m = .inr (.inr m.g) := by
  unfold stM; rw [ifC_f (fun z => h1 z.1), ifC_t h1, ifC_f h2, ifC_f h3, ifC_f h4]
theorem stM_shut (h1 : m.w = 0) (h2 : m.g 11 = 3 ∧ m.g 12 = 41 ∧ 0 < m.p) : stM tp m = .inl (goF tp m.g, m.w, m.p - 1, cntN (setl 6 (setl 0 m.Y m.Z).1.tail (setl 0 m.Y m.Z).2).1, (setl 6 (setl 0 m.Y m.Z).1.tail (setl 0 m.Y m.Z).2).1, (setl 6 (setl 0 m.Y m.Z).1.tail (setl 0 m.Y m.Z).2).2, m.T, m.a) := by
  unfold stM; rw [ifC_f (fun z => absurd (z.2.symm.trans h2.1) (by decide)), ifC_f (fun z => z h1), ifC_t h2]
theorem stM_sno (h1 : m.w = 0) (h0 : m.g 11 ≠ 0) (h2 : ¬ (m.g 11 = 3 ∧ m.g 12 = 41 ∧ 0 < m.p)) (h3 : sgnT (m.g 11) (m.g 12) = 0 ∨ (rankT (sgnT (m.g 11) (m.g 12)) = 3 ∧ m.T m.p ≠ 0)) : stM tp m = .inr (.inr m.g) := by
  unfold stM; rw [ifC_f (fun z => h0 z.2), ifC_f (fun z => z h1), ifC_f h2, ifC_t h3]
theorem stM_sign (h1 : m.w = 0) (h0 : m.g 11 ≠ 0) (h2 : ¬ (m.g 11 = 3 ∧ m.g 12 = 41 ∧ 0 < m.p)) (h3 : ¬ (sgnT (m.g 11) (m.g 12) = 0 ∨ (rankT (sgnT (m.g 11) (m.g 12)) = 3 ∧ m.T m.p ≠ 0))) {t : Int32} (ht : t = if rankT (sgnT (m.g 11) (m.g 12)) = 3 ∨ (3 < rankT (sgnT (m.g 11) (m.g 12)) ∧ m.T m.p ≠ 0) then 1 else 0) :
    stM tp m = .inl (goF tp m.g, 1, m.p, m.q, sgnT (m.g 11) (m.g 12) :: (setl (rankT (sgnT (m.g 11) (m.g 12))) m.Y m.Z).1, (setl (rankT (sgnT (m.g 11) (m.g 12))) m.Y m.Z).2, rw1 m.T m.p t, m.a) := by
  unfold stM; rw [ifC_f (fun z => h0 z.2), ifC_f (fun z => z h1), ifC_f h2, ifC_f h3, ← ht]
end
/-- how many brackets are open -/
def cntO (W : List Int32) : Nat := W.countP (· == -11)
theorem cntO_cons (x : Int32) (W : List Int32) : cntO (x :: W) = cntO W + (if x = -11 then 1 else 0) := by
  unfold cntO
  rw [List.countP_cons]
  by_cases q : x = -11
  · subst q; rfl
  · simp [q]
theorem cntO_setl {k : Int32} : ∀ {W C : List Int32}, cntO (setl k W C).1 = cntO W
  | [], _ => rfl
  | x :: W, C => by
    unfold setl
    by_cases c : x = -11 ∨ rankT x < k
    · rw [if_pos c]
    · rw [if_neg c, cntO_setl, cntO_cons, if_neg (fun z => c (Or.inl z))]; rfl
theorem rankT_pos (x : Int32) : ¬ rankT x < 0 := by
  unfold rankT
  grind
/-- settled whole: an open bracket stands on top -/
theorem setl0_top : ∀ {W C : List Int32}, 0 < cntO W → ∃ Y, (setl 0 W C).1 = -11 :: Y
  | [], _, h => absurd h (by decide)
  | x :: W, C, h => by
    unfold setl
    by_cases c : x = -11
    · rw [if_pos (Or.inl c), c]; exact ⟨W, rfl⟩
    · rw [if_neg (fun z => z.elim c (rankT_pos x))]
      rw [cntO_cons, if_neg c] at h
      exact setl0_top h
theorem cntN_le (W : List Int32) : cntN W ≤ W.length := List.countP_le_length
theorem sgnT_ne (a b : Int32) : sgnT a b ≠ -11 := by
  unfold sgnT sgnV
  grind
theorem stM_g {tp : Row} {m : MS} : (∀ m', stM tp m = .inl m' → m'.g = goF tp m.g) ∧ ∀ r, stM tp m = .inr r → r.g = m.g := by
  constructor
  · intro m' h
    unfold stM ifC at h
    repeat' split at h
    all_goals first
      | (cases h; rfl)
      | cases h
  · intro r h
    unfold stM ifC at h
    repeat' split at h
    all_goals first
      | (cases h; rfl)
      | cases h
      | (cases h; split <;> rfl)
theorem runM_keep {tp : Row} {j : Nat} (hj : j < 9 ∨ 13 < j) : ∀ (k : Nat) (m : MS), (runM tp k m).g j = m.g j
  | 0, _ => rfl
  | k + 1, m => by
    rw [runM]
    cases h : stM tp m with
    | inl m' =>
      show (runM tp k m').g j = _
      rw [runM_keep hj k m', (stM_g (tp := tp) (m := m)).1 m' h, goF_keep hj]
    | inr r => rw [(stM_g (tp := tp) (m := m)).2 r h]
theorem kwT_inj {tp : Row} {f x v w : Nat} (hv : v < 3) (hw : w < 3) (h1 : kwT tp f x v) (h2 : kwT tp f x w) : v = w := by
  have a1 := h1.1
  have a2 := h2.1
  have b1 := h1.2 0
  have b2 := h2.2 0
  rcases (show v = 0 ∨ v = 1 ∨ v = 2 by omega) with rfl | rfl | rfl <;> rcases (show w = 0 ∨ w = 1 ∨ w = 2 by omega) with rfl | rfl | rfl <;> simp [kA, kC] at a1 a2 b1 b2 ⊢ <;> first | omega | (rw [b1] at b2; exact absurd b2 (by decide))
/-- which key stands here -/
noncomputable def keyT (tp g : Row) : Option Nat := ifC (g 11 = 1) (ifC (kwT tp (cl (g 10)) (cl (g 9)) 0) (some 0) (ifC (kwT tp (cl (g 10)) (cl (g 9)) 1) (some 1) (ifC (kwT tp (cl (g 10)) (cl (g 9)) 2) (some 2) none))) none
theorem keyT_some {tp g : Row} {w : Nat} (h1 : g 11 = 1) (hw : w < 3) (h : kwT tp (cl (g 10)) (cl (g 9)) w) : keyT tp g = some w := by
  unfold keyT
  rw [ifC_t h1]
  by_cases c0 : kwT tp (cl (g 10)) (cl (g 9)) 0
  · rw [ifC_t c0, kwT_inj (by decide) hw c0 h]
  · rw [ifC_f c0]
    by_cases c1 : kwT tp (cl (g 10)) (cl (g 9)) 1
    · rw [ifC_t c1, kwT_inj (by decide) hw c1 h]
    · rw [ifC_f c1]
      rcases (show w = 0 ∨ w = 1 ∨ w = 2 by omega) with rfl | rfl | rfl
      · exact absurd h c0
      · exact absurd h c1
      · rw [ifC_t h]
theorem keyT_none {tp g : Row} (h : g 11 ≠ 1 ∨ ∀ v, v < 3 → ¬ kwT tp (cl (g 10)) (cl (g 9)) v) : keyT tp g = none := by
  unfold keyT
  by_cases h1 : g 11 = 1
  · have h2 := h.resolve_left (fun z => z h1)
    rw [ifC_t h1, ifC_f (h2 0 (by decide)), ifC_f (h2 1 (by decide)), ifC_f (h2 2 (by decide))]
  · rw [ifC_f h1]
/-- the first token of a text -/
def txG (s : Ka) : Row := goF (s 7) (rw1 (rw1 (s 99) 9 0) 13 (-1))
noncomputable def txM (s : Ka) (w : Nat) : MR := runM (s 7) (cl (s 99 8) + 1) ⟨goF (s 7) (rw1 (txG s) 14 (nI w)), 1, 0, 0, [], [], fun _ => 0, 0⟩
/-- what a text is: its key, its code (the latest first), how many numbers and names; or the place of its fault -/
noncomputable def txT (s : Ka) : (Nat × List Int32 × Int32) ⊕ Int32 := match keyT (s 7) (txG s) with
  | none => .inr (txG s 10)
  | some w => match txM s w with
    | .inl x => .inl (w, x.2.1, x.2.2)
    | .inr g => .inr (g 10)
def txRow (t : Row) (x w : Nat) (Z : List Int32) (a : Int32) : Row := rw1 (fun i => if 135 + 96 * x ≤ i ∧ i < 135 + 96 * x + Z.length then Z.reverse.getD (i - (135 + 96 * x)) 0 else rw1 (rw1 t (107 + 2 * x) (1000 * nI w + nI Z.length)) (107 + 2 * x + 1) a i) 6 (t 6 + 1)
noncomputable def A_text (s : Ka) : Int32 := match txT s with
  | .inr f => -100 - f
  | .inl _ => if s 0 6 = 14 then cFULL else s 0 6
noncomputable def S_text (s : Ka) : Ka := match txT s with
  | .inr _ => up2 s 99 8 0
  | .inl (w, Z, a) => if s 0 6 = 14 then up2 s 99 8 0 else up1 (up2 s 99 8 0) 0 (txRow (s 0) (nX (s 0)) w Z a)
theorem Stk_at {r : Row} : ∀ {Z : List Int32} {k : Nat}, Stk r Z → k < Z.length → r k = Z.reverse.getD k 0
  | [], _, _, h => absurd h (Nat.not_lt_zero _)
  | x :: Z, k, hs, h => by
    rw [List.reverse_cons]
    rw [List.getD_eq_getElem?_getD]
    by_cases q : k = Z.length
    · subst q
      rw [List.getElem?_append_right (by simp)]
      simp [hs.1]
    · have hk : k < Z.length := by simp only [List.length_cons] at h; omega
      rw [List.getElem?_append_left (by simpa using hk), ← List.getD_eq_getElem?_getD]
      exact Stk_at hs.2 hk
theorem Rel.txt {S : List Nat} {ka kb : Ka} (h : But S ka kb) (hs : ∀ j ∈ [0, 1, 7, 15, 16, 25, 26, 27, 28, 29, 30, 31, 33], 1000 + j ∉ S) (h3 : kb 1099 3 = ka 1099 3) (h34 : kb 1099 34 = ka 1099 34) (h8 : kb 1099 8 = 0) : Rel (up2 (sg ka) 99 8 0) (sg kb) := by
  refine ⟨fun j hj => ?_, fun k hk => ?_⟩
  · rw [up2_a _ _ _ (fun z => by rw [z] at hj; exact absurd hj (by decide))]
    exact h (1000 + j) (hs j hj)
  · rcases (show k = 3 ∨ k = 8 ∨ k = 34 by simpa using hk) with rfl | rfl | rfl
    · rw [up2_i _ _ _ _ (by decide)]; exact h3
    · rw [up2_s]; exact h8
    · rw [up2_i _ _ _ _ (by decide)]; exact h34
theorem Rel.txt2 {S : List Nat} {ka kb : Ka} {r : Row} (h : But S ka kb) (hs : ∀ j ∈ [1, 7, 15, 16, 25, 26, 27, 28, 29, 30, 31, 33], 1000 + j ∉ S) (h3 : kb 1099 3 = ka 1099 3) (h34 : kb 1099 34 = ka 1099 34) (h8 : kb 1099 8 = 0) (hr : kb 1000 = r) : Rel (up1 (up2 (sg ka) 99 8 0) 0 r) (sg kb) := by
  refine ⟨fun j hj => ?_, fun k hk => ?_⟩
  · by_cases e : j = 0
    · subst e; rw [up1_s]; exact hr
    · rw [up1_a _ _ e, up2_a _ _ _ (fun z => by rw [z] at hj; exact absurd hj (by decide))]
      exact h (1000 + j) (hs j (by
        have : j ∈ [0, 1, 7, 15, 16, 25, 26, 27, 28, 29, 30, 31, 33] := hj
        simp only [List.mem_cons, List.not_mem_nil, or_false] at this ⊢
        omega))
  · rw [up1_a _ _ (by decide)]
    rcases (show k = 3 ∨ k = 8 ∨ k = 34 by simpa using hk) with rfl | rfl | rfl
    · rw [up2_i _ _ _ _ (by decide)]; exact h3
    · rw [up2_s]; exact h8
    · rw [up2_i _ _ _ _ (by decide)]; exact h34
