/-! pure: codes and stacks -/
set_option maxRecDepth 100000
theorem codeT_drop {t : Row} {x i : Nat} (h : i < lenT t x) : (codeT t x).drop i = t (135 + 96 * x + i) :: (codeT t x).drop (i + 1) := by
  rw [List.drop_eq_getElem_cons (by simpa [codeT] using h)]
  simp [codeT]
theorem codeT_end {t : Row} {x i : Nat} (h : lenT t x ≤ i) : (codeT t x).drop i = [] := List.drop_eq_nil_of_le (by simpa [codeT] using h)
/-- an array holds a stack: its top is the list's head -/
def StkR (a : Row) : List Int32 → Prop
  | [] => True
  | x :: r => a r.length = x ∧ StkR a r
theorem StkR_up {a b : Row} : ∀ {st : List Int32}, (∀ j, j < st.length → b j = a j) → StkR a st → StkR b st
  | [], _, _ => trivial
  | x :: r, h, hs => ⟨(h r.length (by simp)).trans hs.1, StkR_up (fun j hj => h j (Nat.lt_trans hj (by simp))) hs.2⟩
theorem okC_pos {m : Nat} {sg : Int32} {r : List Int32} {d : Nat} (h : okC m (sg :: r) d) (h0 : ¬ sg < 0) : sg < nI (10000 + m) ∧ okC m r (d + 1) := by
  rcases h with ⟨_, h2, h3⟩ | ⟨h1, _⟩ | ⟨_, h1, _⟩
  · exact ⟨h2, h3⟩
  · exact absurd (by rw [h1]; decide) h0
  · exact absurd h1 h0
theorem okC_not {m : Nat} {sg : Int32} {r : List Int32} {d : Nat} (h : okC m (sg :: r) d) (h0 : sg = -10) : 1 ≤ d ∧ okC m r d := by
  rcases h with ⟨h1, _⟩ | ⟨_, h1, h2⟩ | ⟨h1, _⟩
  · rw [h0] at h1; exact absurd h1 (by decide)
  · exact ⟨h1, h2⟩
  · rw [h0] at h1; exact absurd h1 (by decide)
theorem okC_two {m : Nat} {sg : Int32} {r : List Int32} {d : Nat} (h : okC m (sg :: r) d) (h0 : sg < 0) (h1 : ¬ sg = -10) : (-9 ≤ sg ∧ sg < 0) ∧ 2 ≤ d ∧ okC m r (d - 1) := by
  rcases h with ⟨h2, _⟩ | ⟨h2, _⟩ | ⟨h2, h3, h4, h5⟩
  · exact absurd h0 (i_nlt.mpr h2)
  · exact absurd h2 h1
  · exact ⟨⟨h2, h3⟩, h4, h5⟩
theorem name_ix {m : Nat} {sg : Int32} (hm : m ≤ 4) (h0 : ¬ sg < 0) (h1 : ¬ sg < 10000) (h2 : sg < nI (10000 + m)) : ∃ k : Nat, k < m ∧ sg - 10000 = nI k := by
  obtain ⟨n, hn, rfl⟩ := nI_of h0
  have h3 : n < 10000 + m := (nI_ltI hn (by omega)).mp h2
  have h4 : 10000 ≤ n := Nat.not_lt.mp fun z => h1 ((nI_ltI (b := 10000) hn (by omega)).mpr z)
  exact ⟨n - 10000, by omega, pk_sub h4⟩
theorem stepC_not {f : Nat → Int32} {x : Int32} {r : List Int32} {sg : Int32} (h : sg = -10) : stepC f (x :: r) sg = (if x = 0 then 1 else 0) :: r := by
  subst h; rfl
theorem stepC_two {f : Nat → Int32} {x y : Int32} {r : List Int32} {sg : Int32} (h0 : sg < 0) (h : ¬ sg = -10) : stepC f (y :: x :: r) sg = twoT sg x y :: r := by
  unfold stepC
  rw [if_neg (i_nle.mpr h0), if_neg h]
theorem stepC_lit {f : Nat → Int32} {st : List Int32} {sg : Int32} (h0 : ¬ sg < 0) (h : sg < 10000) : stepC f st sg = sg :: st := by
  unfold stepC
  rw [if_pos (i_nlt.mp h0), if_pos h]
theorem stepC_name {f : Nat → Int32} {st : List Int32} {sg : Int32} {k : Nat} (h0 : ¬ sg < 0) (h : ¬ sg < 10000) (hk : sg - 10000 = nI k) (hl : k < 2 ^ 31) : stepC f st sg = f k :: st := by
  unfold stepC
  rw [if_pos (i_nlt.mp h0), if_neg h, hk, nI_clamp hl]
