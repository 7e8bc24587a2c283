/-! the model's state -/
set_option maxRecDepth 100000
theorem sg0 (ka : Ka) : sg ka 0 = ka 1000 := rfl
theorem sg1 (ka : Ka) : sg ka 1 = ka 1001 := rfl
theorem sg7 (ka : Ka) : sg ka 7 = ka 1007 := rfl
theorem sg25 (ka : Ka) : sg ka 25 = ka 1025 := rfl
theorem sg26 (ka : Ka) : sg ka 26 = ka 1026 := rfl
theorem sg27 (ka : Ka) : sg ka 27 = ka 1027 := rfl
theorem sg28 (ka : Ka) : sg ka 28 = ka 1028 := rfl
theorem sg29 (ka : Ka) : sg ka 29 = ka 1029 := rfl
theorem sg30 (ka : Ka) : sg ka 30 = ka 1030 := rfl
theorem sg31 (ka : Ka) : sg ka 31 = ka 1031 := rfl
theorem sg33 (ka : Ka) : sg ka 33 = ka 1033 := rfl
theorem sg99 (ka : Ka) : sg ka 99 = ka 1099 := rfl
theorem sg_up1 (ka : Ka) (j : Nat) (r : Row) : sg (up1 ka (1000 + j) r) = up1 (sg ka) j r := by
  funext i
  by_cases h : i = j
  · subst h; rw [up1_s]; exact up1_s _ _ _
  · rw [up1_a _ _ h]; exact up1_a _ _ (by omega)
theorem sg_up2 (ka : Ka) (j i : Nat) (v : Int32) : sg (up2 ka (1000 + j) i v) = up2 (sg ka) j i v := by
  funext a b
  simp only [sg, up2]
  by_cases h : a = j
  · subst h; simp
  · rw [if_neg (by omega), if_neg (by omega)]
theorem Rel.refl {s : Ka} : Rel s s := ⟨fun _ _ => rfl, fun _ _ => rfl⟩
theorem Rel.trans {a b c : Ka} (h1 : Rel a b) (h2 : Rel b c) : Rel a c := ⟨fun j hj => (h2.1 j hj).trans (h1.1 j hj), fun k hk => (h2.2 k hk).trans (h1.2 k hk)⟩
theorem Rel.of {s u : Ka} (h : s = u) : Rel s u := h ▸ Rel.refl
/-- scratch rows don't count -/
theorem But.rel {S : List Nat} {ka kb : Ka} (h : But S ka kb) (hs : ∀ j ∈ [0, 1, 7, 15, 16, 25, 26, 27, 28, 29, 30, 31, 33, 99], 1000 + j ∉ S) : Rel (sg ka) (sg kb) :=
  ⟨fun j hj => h (1000 + j) (hs j (by
    have : j ∈ [0, 1, 7, 15, 16, 25, 26, 27, 28, 29, 30, 31, 33] := hj
    simp only [List.mem_cons, List.not_mem_nil, or_false] at this ⊢
    omega)), fun k _ => congrFun (h 1099 (hs 99 (by decide))) k⟩
/-- a row anew, and scratch -/
theorem Rel.row {S : List Nat} {ka kb : Ka} {j : Nat} {r : Row} (h : But S ka kb) (hr : kb (1000 + j) = r) (hs : ∀ i ∈ [0, 1, 7, 15, 16, 25, 26, 27, 28, 29, 30, 31, 33, 99], i ≠ j → 1000 + i ∉ S) (hj : j ≠ 99) : Rel (up1 (sg ka) j r) (sg kb) := by
  refine ⟨fun i hi => ?_, fun k _ => ?_⟩
  · by_cases e : i = j
    · subst e; rw [up1_s]; exact hr
    · rw [up1_a _ _ e]
      exact h (1000 + i) (hs i (by
        have : i ∈ [0, 1, 7, 15, 16, 25, 26, 27, 28, 29, 30, 31, 33] := hi
        simp only [List.mem_cons, List.not_mem_nil, or_false] at this ⊢
        omega) e)
  · rw [up1_a _ _ (Ne.symm hj)]
    exact congrFun (h 1099 (hs 99 (by decide) (Ne.symm hj))) k
/-- a state that keeps its counts right -/
def Sok (s : Ka) : Prop :=
  Rok (s 0) ∧ nP (s 0) ≤ 12 ∧ (s 99 3 = 0 ∨ (s 99 3 = 1 ∧ Rok (s 1) ∧ nP (s 1) ≤ 12)) ∧ (∃ t : Nat, t ≤ 96 ∧ s 99 8 = nI t) ∧ (∃ w : Nat, w ≤ 60 ∧ s 99 34 = nI w) ∧
  (∀ k, k < 4 → (s 25 k = -1 ∨ s 25 k = 0 ∨ s 25 k = 1) ∧ ∃ z : Nat, z ≤ 24 ∧ s 26 k = nI z) ∧ (∀ k, k < 5 → s 28 k = 2 → ∃ z : Nat, z ≤ 24 ∧ s 29 k = nI z)
theorem Sok.r {ka : Ka} (h : Sok (sg ka)) : Rok (ka 1000) := h.1
theorem Sok.sz {ka : Ka} (h : Sok (sg ka)) {k : Nat} (hk : k < 4) : ∃ z : Nat, z ≤ 24 ∧ ka 1026 k = nI z := (h.2.2.2.2.2.1 k hk).2
theorem Sok.so {ka : Ka} (h : Sok (sg ka)) {k : Nat} (hk : k < 4) : ka 1025 k = -1 ∨ ka 1025 k = 0 ∨ ka 1025 k = 1 := (h.2.2.2.2.2.1 k hk).1
theorem Sok.ho {ka : Ka} (h : Sok (sg ka)) {k : Nat} (hk : k < 5) (h2 : ka 1028 k = 2) : ∃ z : Nat, z ≤ 24 ∧ ka 1029 k = nI z := h.2.2.2.2.2.2 k hk h2
theorem in8_10 {w : Int32} (h : 8 ≤ w ∧ w ≤ 10) : w = 8 ∨ w = 9 ∨ w = 10 := by
  obtain ⟨k, h1, h2, rfl⟩ := (btw_iff (a := 8) (b := 10) (by decide) (by decide)).mp h
  rcases (show k = 8 ∨ k = 9 ∨ k = 10 by omega) with rfl | rfl | rfl
  · exact Or.inl rfl
  · exact Or.inr (Or.inl rfl)
  · exact Or.inr (Or.inr rfl)
theorem in1_2 {w : Int32} (h : 1 ≤ w ∧ w ≤ 2) : w = 1 ∨ w = 2 := by
  obtain ⟨k, h1, h2, rfl⟩ := (btw_iff (a := 1) (b := 2) (by decide) (by decide)).mp h
  rcases (show k = 1 ∨ k = 2 by omega) with rfl | rfl
  · exact Or.inl rfl
  · exact Or.inr rfl
theorem wi_nI {x n : Int32} (h : 0 ≤ n) : wi x 0 n = nI (cl (wi x 0 n)) ∧ wi x 0 n ≤ n := by
  have h0 : 0 ≤ wi x 0 n := by grind [wi]
  have h1 : wi x 0 n ≤ n := by grind [wi]
  obtain ⟨k, hk, e⟩ := nI_of (i_nlt.mpr h0)
  refine ⟨?_, h1⟩
  rw [e, cl_nI hk]
theorem bk_eq {b u t : Row} (h1 : ∀ i, i < 107 → b i = t i) (h2 : ∀ i, 107 ≤ i → u i = t i) : bkT b u = t := by
  funext i
  unfold bkT
  split
  · exact h1 i (by assumption)
  · exact h2 i (by omega)
theorem Rel.back {S : List Nat} {ka kb : Ka} (h : But S ka kb) (h0 : kb 1000 = ka 1000) (hs : ∀ j ∈ [1, 7, 15, 16, 25, 26, 27, 28, 29, 30, 31, 33, 99], 1000 + j ∉ S) : Rel (sg ka) (sg kb) := by
  refine ⟨fun j hj => ?_, fun k _ => congrFun (h 1099 (hs 99 (by decide))) k⟩
  by_cases e : j = 0
  · subst e; exact h0
  · exact h (1000 + j) (hs j (by
      have : j ∈ [0, 1, 7, 15, 16, 25, 26, 27, 28, 29, 30, 31, 33] := hj
      simp only [List.mem_cons, List.not_mem_nil, or_false] at this ⊢
      omega))
/-- a row is right if it agrees where it counts -/
theorem Rok.of {t u : Row} (hR : Rok t) (h1 : u 1 = t 1) (h2 : u 2 = t 2) (h6 : u 6 = t 6) (hp : ∀ p w, p < 13 → w < 2 → u (55 + 4 * p + w) = t (55 + 4 * p + w)) (hx : ∀ i, 107 ≤ i → u i = t i) : Rok u := by
  obtain ⟨⟨a1, a2⟩, ⟨b1, b2⟩, ⟨c1, c2⟩, d, f⟩ := hR
  have n1 : nC u = nC t := by unfold nC; rw [h1]
  have n2 : nP u = nP t := by unfold nP; rw [h2]
  have n3 : nX u = nX t := by unfold nX; rw [h6]
  refine ⟨⟨by rw [h1, n1]; exact a1, by rw [n1]; exact a2⟩, ⟨by rw [h2, n2]; exact b1, by rw [n2]; exact b2⟩, ⟨by rw [h6, n3]; exact c1, by rw [n3]; exact c2⟩, fun q hq => ?_, fun x hx' => ?_⟩
  · rw [n2] at hq
    have p1 : pA u q = pA t q := by unfold pA; rw [hp q 0 (by omega) (by omega)]
    have p2 : pB u q = pB t q := by unfold pB; rw [hp q 1 (by omega) (by omega)]
    rw [hp q 0 (by omega) (by omega), hp q 1 (by omega) (by omega), p1, p2, n1]
    exact d q hq
  · rw [n3] at hx'
    have l1 : lenT u x = lenT t x := by unfold lenT; rw [hx _ (by omega)]
    have l2 : codeT u x = codeT t x := by
      unfold codeT; rw [l1]; exact List.map_congr_left fun k _ => hx _ (by omega)
    obtain ⟨key, q1, q2, q3, q4⟩ := f x hx'
    exact ⟨key, q1, by rw [l1]; exact q2, by rw [l1, hx _ (by omega)]; exact q3, by rw [l2]; exact q4⟩
theorem Rok.cork {t : Row} (hR : Rok t) {p : Nat} (hp : p < 13) (v : Int32) : Rok (rw1 t (55 + 4 * p + 3) v) := by
  have e : ∀ i, i ≠ 55 + 4 * p + 3 → rw1 t (55 + 4 * p + 3) v i = t i := fun i h => va_up_ne _ _ h
  exact hR.of (e 1 (by omega)) (e 2 (by omega)) (e 6 (by omega)) (fun q w _ _ => e _ (by omega)) (fun i _ => e _ (by omega))
theorem rw1_107 {t : Row} {k : Nat} (hk : k < 107) (v : Int32) : ∀ i, 107 ≤ i → rw1 t k v i = t i := fun i hi => va_up_ne _ _ (by omega)
theorem emT_seq {t : Row} {c : Nat} (hc : c < 8) : Seq t (emT t c) := by
  intro i hi
  unfold Wet at hi
  unfold emT
  rw [if_neg (by omega)]
theorem dgB_iff {t : Row} {a b : Nat} : dgB t a b = true ↔ joinT t a b (nP t) := by
  unfold dgB joinT
  rw [List.any_eq_true]
  constructor
  · rintro ⟨p, h1, h2⟩
    refine ⟨p, List.mem_range.mp h1, ?_⟩
    simpa using h2
  · rintro ⟨p, h1, h2⟩
    exact ⟨p, List.mem_range.mpr h1, by simpa using h2⟩
theorem dgS_low {t : Row} {n a : Nat} : ∀ {k : Nat} (q : Int32 × Int32), k ≤ a + 1 → itn (dgS t n a) k q = q
  | 0, _, _ => rfl
  | k + 1, q, h => by
    show dgS t n a k (itn (dgS t n a) k q) = q
    rw [dgS_low q (by omega), dgS, if_neg (by omega)]
/-- one pipe more -/
def plT (t : Row) (a b : Nat) (w : Int32) : Row := rw1 (layT t (nP t) (nI a) (nI b) w) 2 (t 2 + 1)
theorem plT_at {t : Row} {a b : Nat} {w : Int32} {i : Nat} (h2 : i ≠ 2) (h : i < 55 + 4 * nP t ∨ 55 + 4 * nP t + 3 < i) : plT t a b w i = t i := by
  unfold plT rw1
  rw [va_up_ne _ _ h2]
  unfold layT
  rw [if_neg (by omega), if_neg (by omega), if_neg (by omega), if_neg (by omega)]
theorem plT_2 {t : Row} {a b : Nat} {w : Int32} : plT t a b w 2 = t 2 + 1 := by unfold plT rw1; exact va_up_self _ _ _
theorem Rok.lay {t : Row} (hR : Rok t) (h12 : nP t ≤ 12) {a b : Nat} (ha : a < nC t) (hb : b < nC t) (w : Int32) : Rok (plT t a b w) ∧ nP (plT t a b w) = nP t + 1 ∧ nC (plT t a b w) = nC t := by
  have e2 : plT t a b w 2 = nI (nP t + 1) := by rw [plT_2, hR.2.1.1]; exact nI_1 _
  have n2 : nP (plT t a b w) = nP t + 1 := by unfold nP; rw [e2]; exact nI_clamp (by unfold nP at *; omega)
  have n1 : nC (plT t a b w) = nC t := by unfold nC; rw [plT_at (by omega) (by omega)]
  have n3 : nX (plT t a b w) = nX t := by unfold nX; rw [plT_at (by omega) (by omega)]
  obtain ⟨⟨a1, a2⟩, ⟨b1, b2⟩, ⟨c1, c2⟩, d, f⟩ := hR
  refine ⟨⟨⟨by rw [n1, plT_at (by omega) (by omega)]; exact a1, by rw [n1]; exact a2⟩, ⟨by rw [n2]; exact e2, by rw [n2]; omega⟩, ⟨by rw [n3, plT_at (by omega) (by omega)]; exact c1, by rw [n3]; exact c2⟩, fun q hq => ?_, fun x hx' => ?_⟩, n2, n1⟩
  · rw [n2] at hq
    by_cases e : q = nP t
    · subst e
      have e0 : plT t a b w (55 + 4 * nP t + 0) = nI a := by unfold plT rw1; rw [va_up_ne _ _ (by omega)]; unfold layT; rw [if_pos rfl]
      have e1 : plT t a b w (55 + 4 * nP t + 1) = nI b := by unfold plT rw1; rw [va_up_ne _ _ (by omega)]; unfold layT; rw [if_neg (by omega), if_pos rfl]
      have p1 : pA (plT t a b w) (nP t) = a := by unfold pA; rw [e0]; exact nI_clamp (by omega)
      have p2 : pB (plT t a b w) (nP t) = b := by unfold pB; rw [e1]; exact nI_clamp (by omega)
      rw [e0, e1, p1, p2, n1]
      exact ⟨rfl, ha, rfl, hb⟩
    · have p1 : pA (plT t a b w) q = pA t q := by unfold pA; rw [plT_at (by omega) (by omega)]
      have p2 : pB (plT t a b w) q = pB t q := by unfold pB; rw [plT_at (by omega) (by omega)]
      rw [plT_at (by omega) (by omega), plT_at (by omega) (by omega), p1, p2, n1]
      exact d q (by omega)
  · rw [n3] at hx'
    have l1 : lenT (plT t a b w) x = lenT t x := by unfold lenT; rw [plT_at (by omega) (by omega)]
    have l2 : codeT (plT t a b w) x = codeT t x := by
      unfold codeT; rw [l1]; exact List.map_congr_left fun k _ => plT_at (by omega) (by omega)
    obtain ⟨key, q1, q2, q3, q4⟩ := f x hx'
    exact ⟨key, q1, by rw [l1]; exact q2, by rw [l1, plT_at (by omega) (by omega)]; exact q3, by rw [l2]; exact q4⟩
