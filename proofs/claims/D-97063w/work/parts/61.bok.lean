/-! BOUNDS of a row: floors, lips, widths, wine; they last through the hours -/
set_option maxRecDepth 100000
def sumN (f : Nat → Nat) : Nat → Nat
  | 0 => 0
  | k + 1 => sumN f k + f k
theorem sumN_congr {f g : Nat → Nat} : ∀ {n : Nat}, (∀ k, k < n → f k = g k) → sumN f n = sumN g n
  | 0, _ => rfl
  | n + 1, h => by
    show sumN f n + f n = sumN g n + g n
    rw [sumN_congr (fun k hk => h k (by omega)), h n (by omega)]
theorem sumN_upd {f g : Nat → Nat} {c : Nat} : ∀ {n : Nat}, c < n → (∀ k, k < n → k ≠ c → g k = f k) → sumN g n + f c = sumN f n + g c
  | 0, h, _ => absurd h (Nat.not_lt_zero _)
  | n + 1, h, hk => by
    show sumN g n + g n + f c = sumN f n + f n + g c
    by_cases e : c = n
    · subst e
      rw [sumN_congr (f := g) (g := f) (fun k hk' => hk k (by omega) (by omega))]
      omega
    · have := sumN_upd (f := f) (g := g) (c := c) (n := n) (by omega) (fun k h1 h2 => hk k (by omega) h2)
      rw [hk n (by omega) (Ne.symm e)]
      omega
theorem sumN_le {f : Nat → Nat} {c : Nat} : ∀ {n : Nat}, c < n → f c ≤ sumN f n
  | 0, h => absurd h (Nat.not_lt_zero _)
  | n + 1, h => by
    show f c ≤ sumN f n + f n
    by_cases e : c = n
    · subst e; omega
    · have := sumN_le (f := f) (c := c) (n := n) (by omega)
      omega
/-- a cellar's wine as a number -/
def wv (t : Row) (k i : Nat) : Nat := cl (t (7 + 6 * k + (3 + i)))
def tot0 (t : Row) : Nat := sumN (fun k => wv t k 0) (nC t)
def tot12 (t : Row) : Nat := sumN (fun k => wv t k 1 + wv t k 2) (nC t)
def Bok (u s : Nat) (t : Row) : Prop :=
  (∀ k, k < nC t → (∃ a : Nat, a ≤ 99 ∧ t (7 + 6 * k + 1) = nI a) ∧ (∃ b : Nat, 1 ≤ b ∧ b ≤ 99 ∧ t (7 + 6 * k + 2) = nI b) ∧ ∀ i, i < 3 → t (7 + 6 * k + (3 + i)) = nI (wv t k i)) ∧
  (∀ p, p < nP t → (∃ w : Nat, 1 ≤ w ∧ w ≤ 9 ∧ t (55 + 4 * p + 2) = nI w) ∧ (t (55 + 4 * p + 3) = 0 ∨ t (55 + 4 * p + 3) = 1)) ∧ tot12 t ≤ u ∧ tot0 t ≤ s
/-- the bounds are low enough -/
def OvN (u s : Nat) : Prop := u + s < 2 ^ 30 ∧ u * ((u + s) / 4 + 1) < 2 ^ 31 ∧ u * 4950 < 2 ^ 31
section
variable {t : Row} {u s k : Nat}
theorem Bok.wn (h : Bok u s t) (hk : k < nC t) : WN t k (wv t k 0) (wv t k 1) (wv t k 2) := ⟨(h.1 k hk).2.2 0 (by decide), (h.1 k hk).2.2 1 (by decide), (h.1 k hk).2.2 2 (by decide)⟩
theorem Bok.w12 (h : Bok u s t) (hk : k < nC t) : wv t k 1 + wv t k 2 ≤ u := Nat.le_trans (sumN_le (f := fun k => wv t k 1 + wv t k 2) hk) h.2.2.1
theorem Bok.w0 (h : Bok u s t) (hk : k < nC t) : wv t k 0 ≤ s := Nat.le_trans (sumN_le (f := fun k => wv t k 0) hk) h.2.2.2
def fN (t : Row) (k : Nat) : Nat := wv t k 0 + wv t k 1 + wv t k 2
theorem Bok.full (h : Bok u s t) (hk : k < nC t) : fullT t k = nI (fN t k) := (h.wn hk).full
theorem Bok.fu (h : Bok u s t) (hk : k < nC t) : fN t k ≤ u + s := by
  have h1 := h.w12 hk
  have h2 := h.w0 hk
  unfold fN
  omega
/-- what may go out of a cellar -/
def mayGo (t : Row) (k m : Nat) : Prop := m ≤ fN t k ∧ (m ≤ fN t k / 4 + 1 ∨ m ≤ 4950)
theorem Bok.prod (h : Bok u s t) (hO : OvN u s) (hk : k < nC t) {m : Nat} (hm : mayGo t k m) : wv t k 1 * m < 2 ^ 31 ∧ wv t k 2 * m < 2 ^ 31 := by
  have h1 := h.w12 hk
  have h2 := h.fu hk
  have key : ∀ w, w ≤ u → w * m < 2 ^ 31 := fun w hw => by
    rcases hm.2 with q | q
    · have h3 : m ≤ (u + s) / 4 + 1 := by omega
      exact Nat.lt_of_le_of_lt (Nat.mul_le_mul hw h3) hO.2.1
    · exact Nat.lt_of_le_of_lt (Nat.mul_le_mul hw q) hO.2.2
  exact ⟨key _ (by omega), key _ (by omega)⟩
/-- the component's way of taking out is the model's -/
theorem Bok.go (h : Bok u s t) (hO : OvN u s) (hk : k < nC t) {m : Nat} (hm : mayGo t k m) : ∀ i, i < 3 → goX t k (nI m) i = goT t k (nI m) i :=
  goX_eq (h.wn hk) (show fN t k = _ from rfl) (by have := h.fu hk; have := hO.1; omega) hm.1 (h.prod hO hk hm).1 (h.prod hO hk hm).2
/-- how much goes, of each sort -/
def gN (t : Row) (k m i : Nat) : Nat := if i = 0 then sN (wv t k 0) m (fN t k) + m0N (wv t k 0) (wv t k 1) (wv t k 2) m (fN t k) else if i = 1 then sN (wv t k 1) m (fN t k) + m1N (wv t k 0) (wv t k 1) (wv t k 2) m (fN t k) else sN (wv t k 2) m (fN t k) + m2N (wv t k 0) (wv t k 1) (wv t k 2) m (fN t k)
theorem gN_le {m : Nat} (hm : m ≤ fN t k) {i : Nat} (hi : i < 3) : gN t k m i ≤ wv t k i := by
  have b0 := sN_le (w := wv t k 0) hm
  have b1 := sN_le (w := wv t k 1) hm
  have b2 := sN_le (w := wv t k 2) hm
  rcases (show i = 0 ∨ i = 1 ∨ i = 2 by omega) with rfl | rfl | rfl
  · show sN (wv t k 0) m (fN t k) + min _ _ ≤ _
    omega
  · show sN (wv t k 1) m (fN t k) + min _ _ ≤ _
    omega
  · show sN (wv t k 2) m (fN t k) + min _ _ ≤ _
    omega
theorem Bok.goN (h : Bok u s t) (hO : OvN u s) (hk : k < nC t) {m : Nat} (hm : m ≤ fN t k) : ∀ i, i < 3 → goT t k (nI m) i = nI (gN t k m i) := by
  obtain ⟨g0, g1, g2⟩ := goT_nat (h.wn hk) (show fN t k = _ from rfl) (by have := h.fu hk; have := hO.1; omega) hm
  intro i hi
  rcases (show i = 0 ∨ i = 1 ∨ i = 2 by omega) with rfl | rfl | rfl
  · exact g0
  · exact g1
  · exact g2
end
theorem wv_congr {t v : Row} {k i : Nat} (h : v (7 + 6 * k + (3 + i)) = t (7 + 6 * k + (3 + i))) : wv v k i = wv t k i := by unfold wv; rw [h]
/-- bounds of a row that differs in wine alone -/
theorem Bok.seq {u s : Nat} {t v : Row} (h : Bok u s t) (hs : Seq t v) (hw : ∀ k, k < nC t → ∀ i, i < 3 → v (7 + 6 * k + (3 + i)) = nI (wv v k i)) (h12 : tot12 v ≤ tot12 t) (h0 : tot0 v ≤ tot0 t) : Bok u s v := by
  refine ⟨fun k hk => ?_, fun p hp => ?_, Nat.le_trans h12 h.2.2.1, Nat.le_trans h0 h.2.2.2⟩
  · rw [hs.nC] at hk
    rw [hs.ce k (by decide), hs.ce k (by decide)]
    exact ⟨(h.1 k hk).1, (h.1 k hk).2.1, hw k hk⟩
  · rw [hs.nP] at hp
    rw [hs.pi, hs.pi]
    exact h.2.1 p hp
theorem drT_at {t : Row} {c : Nat} {n : Int32} {i : Nat} (hi : i < 3) : drT t c n (7 + 6 * c + (3 + i)) = t (7 + 6 * c + (3 + i)) - goT t c n i := by
  unfold drT
  rcases (show i = 0 ∨ i = 1 ∨ i = 2 by omega) with rfl | rfl | rfl
  · rw [if_pos rfl]
  · rw [if_neg (by omega), if_pos rfl]
  · rw [if_neg (by omega), if_neg (by omega), if_pos rfl]
theorem drT_ne {t : Row} {c : Nat} {n : Int32} {k i : Nat} (hi : i < 3) (h : k ≠ c) : drT t c n (7 + 6 * k + (3 + i)) = t (7 + 6 * k + (3 + i)) := by
  unfold drT
  rw [if_neg (by omega), if_neg (by omega), if_neg (by omega)]
theorem inT_at {t : Row} {c : Nat} {g : Nat → Int32} {i : Nat} (hi : i < 3) : inT t c g (7 + 6 * c + (3 + i)) = t (7 + 6 * c + (3 + i)) + g i := by
  unfold inT
  rcases (show i = 0 ∨ i = 1 ∨ i = 2 by omega) with rfl | rfl | rfl
  · rw [if_pos rfl]
  · rw [if_neg (by omega), if_pos rfl]
  · rw [if_neg (by omega), if_neg (by omega), if_pos rfl]
theorem inT_ne {t : Row} {c : Nat} {g : Nat → Int32} {k i : Nat} (hi : i < 3) (h : k ≠ c) : inT t c g (7 + 6 * k + (3 + i)) = t (7 + 6 * k + (3 + i)) := by
  unfold inT
  rw [if_neg (by omega), if_neg (by omega), if_neg (by omega)]
section
variable {t : Row} {u s c m : Nat}
theorem Bok.dr1 (h : Bok u s t) (hO : OvN u s) (hc : c < nC t) (hm : m ≤ fN t c) : (∀ i, i < 3 → wv (drT t c (nI m)) c i = wv t c i - gN t c m i ∧ drT t c (nI m) (7 + 6 * c + (3 + i)) = nI (wv t c i - gN t c m i)) ∧ ∀ k i, i < 3 → k ≠ c → wv (drT t c (nI m)) k i = wv t k i := by
  have hb := h.fu hc
  have ho := hO.1
  refine ⟨fun i hi => ?_, fun k i hi hk => wv_congr (drT_ne hi hk)⟩
  have e : drT t c (nI m) (7 + 6 * c + (3 + i)) = nI (wv t c i - gN t c m i) := by rw [drT_at hi, h.goN hO hc hm i hi, (h.1 c hc).2.2 i hi, pk_sub (gN_le hm hi)]
  refine ⟨?_, e⟩
  unfold wv
  rw [e]
  refine cl_nI ?_
  have : wv t c i ≤ fN t c := by
    unfold fN
    rcases (show i = 0 ∨ i = 1 ∨ i = 2 by omega) with rfl | rfl | rfl <;> omega
  omega
/-- drops that go out -/
theorem Bok.dr (h : Bok u s t) (hO : OvN u s) (hR : Rok t) (hc : c < nC t) (hm : m ≤ fN t c) : Bok u s (drT t c (nI m)) := by
  obtain ⟨d1, d2⟩ := h.dr1 hO hc hm
  have hs : Seq t (drT t c (nI m)) := drT_seq (by have := hR.1.2; omega) _
  refine h.seq hs (fun k hk i hi => ?_) ?_ ?_
  · by_cases e : k = c
    · subst e; rw [(d1 i hi).1, (d1 i hi).2]
    · rw [drT_ne hi e, d2 k i hi e]; exact (h.1 k hk).2.2 i hi
  · unfold tot12
    rw [hs.nC]
    have := sumN_upd (f := fun k => wv t k 1 + wv t k 2) (g := fun k => wv (drT t c (nI m)) k 1 + wv (drT t c (nI m)) k 2) (c := c) (n := nC t) hc (fun k hk e => by show _ + _ = _ + _; rw [d2 k 1 (by decide) e, d2 k 2 (by decide) e])
    simp only [(d1 1 (by decide)).1, (d1 2 (by decide)).1] at this
    omega
  · unfold tot0
    rw [hs.nC]
    have := sumN_upd (f := fun k => wv t k 0) (g := fun k => wv (drT t c (nI m)) k 0) (c := c) (n := nC t) hc (fun k hk e => d2 k 0 (by decide) e)
    simp only [(d1 0 (by decide)).1] at this
    omega
end
