/-! a town's numbers, one of them anew -/
set_option maxRecDepth 100000
theorem nC_rw {t : Row} {x : Nat} {v : Int32} (h : x ≠ 1) : nC (rw1 t x v) = nC t := by unfold nC; rw [rw1_n _ (Ne.symm h)]
theorem nP_rw {t : Row} {x : Nat} {v : Int32} (h : x ≠ 2) : nP (rw1 t x v) = nP t := by unfold nP; rw [rw1_n _ (Ne.symm h)]
theorem nX_rw {t : Row} {x : Nat} {v : Int32} (h : x ≠ 6) : nX (rw1 t x v) = nX t := by unfold nX; rw [rw1_n _ (Ne.symm h)]
/-- which number of the row a field of a town is -/
def fT (f : Nat) : Nat := match f with
  | 0 => 1
  | 1 => 2
  | 2 => 6
  | 3 => 3
  | 4 => 4
  | 5 => 5
  | _ => 0
section
variable {ka : Ka} {j : Nat} {t : Row} {v : Int32}
theorem RepT.num (h : RepT ka j t) {f : Nat} (hf : f = 1 ∨ f = 2 ∨ f = 3 ∨ f = 4 ∨ f = 5 ∨ f = 6) (hj : j ≤ 2) (h8 : nC t ≤ 8) : RepT (up2 ka (30 + j) f v) j (rw1 t (fT f) v) := by
  have hx1 : fT f ≠ 1 ∧ fT f < 7 := by rcases hf with rfl | rfl | rfl | rfl | rfl | rfl <;> decide
  obtain ⟨h1, h2, h3⟩ := h
  refine ⟨?_, fun p hp => ?_, fun k hk => ?_⟩
  · rcases hf with rfl | rfl | rfl | rfl | rfl | rfl <;> simp [up2, rw1, va_up, fT] <;> exact ⟨by simpa using h1.1, by simp [h1], by simp [h1]⟩
  · rw [up2_a _ _ _ (by omega), up2_a _ _ _ (by omega), up2_a _ _ _ (by omega), up2_a _ _ _ (by omega), rw1_n _ (by omega), rw1_n _ (by omega), rw1_n _ (by omega), rw1_n _ (by omega)]
    exact h2 p hp
  · rw [nC_rw hx1.1] at hk
    rw [up2_a _ _ _ (by omega), up2_a _ _ _ (by omega), rw1_n _ (by omega), rw1_n _ (by omega)]
    refine ⟨(h3 k hk).1, (h3 k hk).2.1, fun i hi => ?_⟩
    rw [rw1_n _ (by omega)]
    exact (h3 k hk).2.2 i hi
theorem RepT.wine (h : RepT ka j t) {k i : Nat} (hk : k < nC t) (hi : i < 3) (hj : j ≤ 2) (h8 : nC t ≤ 8) : RepT (up2 ka (200 + 8 * j + k) i v) j (rw1 t (7 + 6 * k + (3 + i)) v) := by
  obtain ⟨h1, h2, h3⟩ := h
  refine ⟨?_, fun p hp => ?_, fun k' hk' => ?_⟩
  · rw [up2_a _ _ _ (by omega), rw1_n _ (by omega), rw1_n _ (by omega), rw1_n _ (by omega), rw1_n _ (by omega), rw1_n _ (by omega), rw1_n _ (by omega), rw1_n _ (by omega)]
    exact h1
  · rw [up2_a _ _ _ (by omega), up2_a _ _ _ (by omega), up2_a _ _ _ (by omega), up2_a _ _ _ (by omega), rw1_n _ (by omega), rw1_n _ (by omega), rw1_n _ (by omega), rw1_n _ (by omega)]
    exact h2 p hp
  · rw [nC_rw (by omega)] at hk'
    rw [up2_a _ _ _ (show 100 + 8 * j + k' ≠ 200 + 8 * j + k by omega), rw1_n _ (by omega), rw1_n _ (by omega)]
    refine ⟨(h3 k' hk').1, (h3 k' hk').2.1, fun i' hi' => ?_⟩
    by_cases q : k' = k
    · subst q
      by_cases q2 : i' = i
      · subst q2; rw [up2_s, rw1_s]
      · rw [up2_i _ _ _ _ q2, rw1_n _ (by omega)]; exact (h3 k' hk').2.2 i' hi'
    · rw [up2_a _ _ _ (by omega), rw1_n _ (by omega)]; exact (h3 k' hk').2.2 i' hi'
theorem RepT.flip (h : RepT ka j t) {k i : Nat} (hk : k < nC t) (hi : i < 2) (hj : j ≤ 2) (h8 : nC t ≤ 8) : RepT (up2 ka (100 + 8 * j + k) i v) j (rw1 t (7 + 6 * k + (1 + i)) v) := by
  obtain ⟨h1, h2, h3⟩ := h
  refine ⟨?_, fun p hp => ?_, fun k' hk' => ?_⟩
  · rw [up2_a _ _ _ (by omega), rw1_n _ (by omega), rw1_n _ (by omega), rw1_n _ (by omega), rw1_n _ (by omega), rw1_n _ (by omega), rw1_n _ (by omega), rw1_n _ (by omega)]
    exact h1
  · rw [up2_a _ _ _ (by omega), up2_a _ _ _ (by omega), up2_a _ _ _ (by omega), up2_a _ _ _ (by omega), rw1_n _ (by omega), rw1_n _ (by omega), rw1_n _ (by omega), rw1_n _ (by omega)]
    exact h2 p hp
  · rw [nC_rw (by omega)] at hk'
    rw [up2_a _ _ _ (show 200 + 8 * j + k' ≠ 100 + 8 * j + k by omega)]
    refine ⟨?_, ?_, fun i' hi' => by rw [rw1_n _ (by omega)]; exact (h3 k' hk').2.2 i' hi'⟩
    · by_cases q : k' = k ∧ i = 0
      · obtain ⟨rfl, rfl⟩ := q; rw [up2_s, rw1_s]
      · rw [rw1_n _ (by omega)]
        by_cases q2 : k' = k
        · rw [q2, up2_i _ _ _ _ (by omega), ← q2]; exact (h3 k' hk').1
        · rw [up2_a _ _ _ (by omega)]; exact (h3 k' hk').1
    · by_cases q : k' = k ∧ i = 1
      · obtain ⟨rfl, rfl⟩ := q; rw [up2_s, rw1_s]
      · rw [rw1_n _ (by omega)]
        by_cases q2 : k' = k
        · rw [q2, up2_i _ _ _ _ (by omega), ← q2]; exact (h3 k' hk').2.1
        · rw [up2_a _ _ _ (by omega)]; exact (h3 k' hk').2.1
theorem RepT.pipe (h : RepT ka j t) {p q : Nat} (hp : p < 13) (hq : q < 4) (hj : j ≤ 2) (h8 : nC t ≤ 8) : RepT (up2 ka (40 + q + 10 * j) p v) j (rw1 t (55 + 4 * p + q) v) := by
  obtain ⟨h1, h2, h3⟩ := h
  have hh : ∀ p' q', p' < 13 → q' < 4 → ka (40 + q' + 10 * j) p' = t (55 + 4 * p' + q') → up2 ka (40 + q + 10 * j) p v (40 + q' + 10 * j) p' = rw1 t (55 + 4 * p + q) v (55 + 4 * p' + q') := by
    intro p' q' h4 h5 h6
    by_cases e : p' = p ∧ q' = q
    · obtain ⟨rfl, rfl⟩ := e; rw [up2_s, rw1_s]
    · rw [rw1_n _ (by omega)]
      by_cases e2 : q' = q
      · subst e2; rw [up2_i _ _ _ _ (by omega)]; exact h6
      · rw [up2_a _ _ _ (by omega)]; exact h6
  refine ⟨?_, fun p' hp' => ?_, fun k' hk' => ?_⟩
  · rw [up2_a _ _ _ (by omega), rw1_n _ (by omega), rw1_n _ (by omega), rw1_n _ (by omega), rw1_n _ (by omega), rw1_n _ (by omega), rw1_n _ (by omega), rw1_n _ (by omega)]
    exact h1
  · obtain ⟨g0, g1, g2, g3⟩ := h2 p' hp'
    exact ⟨hh p' 0 hp' (by decide) g0, hh p' 1 hp' (by decide) g1, hh p' 2 hp' (by decide) g2, hh p' 3 hp' (by decide) g3⟩
  · rw [nC_rw (by omega)] at hk'
    rw [up2_a _ _ _ (by omega), up2_a _ _ _ (by omega), rw1_n _ (by omega), rw1_n _ (by omega)]
    refine ⟨(h3 k' hk').1, (h3 k' hk').2.1, fun i hi => ?_⟩
    rw [rw1_n _ (by omega)]
    exact (h3 k' hk').2.2 i hi
end
/-- only this town's numbers, what goes and what the names mean have changed -/
def ButT (j : Nat) (ka kb : Ka) : Prop := ∀ q, q ≠ 1 → q ≠ 6 → q ≠ 30 + j → ¬ (40 + 10 * j ≤ q ∧ q ≤ 43 + 10 * j) → ¬ (100 + 8 * j ≤ q ∧ q < 108 + 8 * j) → ¬ (200 + 8 * j ≤ q ∧ q < 208 + 8 * j) → kb q = ka q
theorem ButT.refl {j : Nat} {ka : Ka} : ButT j ka ka := fun _ _ _ _ _ _ _ => rfl
theorem ButT.trans {j : Nat} {a b c : Ka} (h1 : ButT j a b) (h2 : ButT j b c) : ButT j a c := fun q g1 g2 g3 g4 g5 g6 => (h2 q g1 g2 g3 g4 g5 g6).trans (h1 q g1 g2 g3 g4 g5 g6)
theorem But.bt {j : Nat} {a b : Ka} (h : But [6] a b) : ButT j a b := fun q _ g _ _ _ _ => h q (fun z => g (List.mem_singleton.mp z))
theorem ButT.up {j : Nat} {a b : Ka} {p i : Nat} {v : Int32} (e : b = up2 a p i v) (hp : p = 1 ∨ p = 6 ∨ p = 30 + j ∨ (40 + 10 * j ≤ p ∧ p ≤ 43 + 10 * j) ∨ (100 + 8 * j ≤ p ∧ p < 108 + 8 * j) ∨ (200 + 8 * j ≤ p ∧ p < 208 + 8 * j)) : ButT j a b := fun q g1 g2 g3 g4 g5 g6 => by
  rw [e, up2_a _ _ _ (fun z => by subst z; omega)]
theorem ButT.keeps {j : Nat} {a b : Ka} {th : Th} {rh : Rh} (h : ButT j a b) (hj : j ≤ 2) : Keeps th rh a th rh b := fun c sh q => ⟨q, rfl, h _ (by omega) (by omega) (by omega) (by omega) (by omega) (by omega)⟩
theorem RepX.keeps {th th' : Th} {rh rh' : Rh} {ka ka' : Ka} {x j : Nat} {t u : Row} (h : RepX th rh ka x j t) (hk : Keeps th rh ka th' rh' ka') (hr : ∀ i, i < nX t → rh' (45 + 10 * j) i = rh (45 + 10 * j) i) (hu : ∀ i, 107 ≤ i → u i = t i) (hn : u 6 = t 6) : RepX th' rh' ka' x j u := by
  have n6 : nX u = nX t := by unfold nX; rw [hn]
  intro i hi
  rw [n6] at hi
  obtain ⟨a, key, q1, q2, q3, q4⟩ := h i hi
  have l1 : lenT u i = lenT t i := by unfold lenT; rw [hu _ (by omega)]
  have l2 : codeT u i = codeT t i := by unfold codeT; rw [l1]; exact List.map_congr_left fun k _ => hu _ (by omega)
  exact ⟨a, key, (hr i hi).trans q1, q2, by rw [hu _ (by omega), l2]; exact q3.keeps hk, by rw [l1, hu _ (by omega)]; exact q4⟩
/-- the town after some of its numbers have changed -/
theorem Tn.step {th : Th} {rh : Rh} {ka kb : Ka} {A : XA} {j : Nat} {K : Nat → Option Nat} {t u : Row} (h : Tn th rh ka A j K t) (hj : j ≤ 2) (hb : ButT j ka kb) (hs : Seq t u) (hr : RepT kb j u) : Tn th rh kb A j K u := by
  obtain ⟨h1, h2, h3, h4, h5, h6, h7⟩ := h
  refine ⟨h1, h2, h3, fun k hk => ?_, hs.rok h5, hr, h7.keeps (hb.keeps hj) (fun _ _ => rfl) (fun i hi => hs.tx hi) hs.c6⟩
  rw [hs.nC] at hk
  obtain ⟨kd, q1, q2⟩ := h4 k hk
  exact ⟨kd, q1, by rw [hs.ce k (by decide)]; exact q2⟩
