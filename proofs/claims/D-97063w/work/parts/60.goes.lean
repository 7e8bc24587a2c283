/-! DROPS THAT GO: in plain numbers; the model's longs and the component's ints come to the same -/
set_option maxRecDepth 100000
/-- first shares, what is left, what goes -/
def sN (w m F : Nat) : Nat := w * m / F
def lkN (w0 w1 w2 m F : Nat) : Nat := m - sN w0 m F - sN w1 m F - sN w2 m F
def m0N (w0 w1 w2 m F : Nat) : Nat := min (lkN w0 w1 w2 m F) (w0 - sN w0 m F)
def m1N (w0 w1 w2 m F : Nat) : Nat := min (lkN w0 w1 w2 m F - m0N w0 w1 w2 m F) (w1 - sN w1 m F)
def m2N (w0 w1 w2 m F : Nat) : Nat := min (lkN w0 w1 w2 m F - m0N w0 w1 w2 m F - m1N w0 w1 w2 m F) (w2 - sN w2 m F)
theorem sN_le {w m F : Nat} (h : m ≤ F) : sN w m F ≤ w := by
  unfold sN
  by_cases h0 : F = 0
  · subst h0; simp
  · exact Nat.div_le_of_le_mul (by rw [Nat.mul_comm F w]; exact Nat.mul_le_mul_left w h)
theorem sN_sum {w0 w1 w2 m F : Nat} (hF : F = w0 + w1 + w2) (h : m ≤ F) : sN w0 m F + sN w1 m F + sN w2 m F ≤ m := by
  by_cases h0 : F = 0
  · subst h0
    unfold sN
    simp
  · have a0 := Nat.div_mul_le_self (w0 * m) F
    have a1 := Nat.div_mul_le_self (w1 * m) F
    have a2 := Nat.div_mul_le_self (w2 * m) F
    refine Nat.le_of_mul_le_mul_right (c := F) ?_ (by omega)
    unfold sN
    rw [Nat.add_mul, Nat.add_mul]
    have e : m * F = w0 * m + w1 * m + w2 * m := by rw [hF, Nat.mul_comm, Nat.add_mul, Nat.add_mul]
    omega
theorem add_toInt {x y : Int32} {a b : Int} (hx : x.toInt = a) (hy : y.toInt = b) (h1 : -2147483648 ≤ a + b) (h2 : a + b < 2147483648) : (x + y).toInt = a + b := by
  rw [Int32.toInt_add, hx, hy]
  exact Int.bmod_eq_of_le h1 h2
theorem sub2_toInt {x y : Int32} {a b : Int} (hx : x.toInt = a) (hy : y.toInt = b) (h1 : -2147483648 ≤ a - b) (h2 : a - b < 2147483648) : (x - y).toInt = a - b := by
  rw [Int32.toInt_sub, hx, hy]
  exact Int.bmod_eq_of_le h1 h2
theorem min_toInt {x y : Int32} {a b : Int} (hx : x.toInt = a) (hy : y.toInt = b) : (minI x y).toInt = min a b := by
  unfold minI
  by_cases c : x < y
  · rw [if_pos c, hx]; rw [i32_lt, hx, hy] at c; omega
  · rw [if_neg c, hy]; rw [i32_lt, hx, hy] at c; omega
theorem nI_t {x : Int32} {n : Nat} (h : x.toInt = (n : Int)) (hn : n < 2 ^ 31) : x = nI n := Int32.toInt_inj.mp (by rw [h, nI_toInt hn])
/-- a share in longs -/
theorem sh_l {w m F : Nat} (hw : w < 2 ^ 30) (hm : m < 2 ^ 30) (hF : F < 2 ^ 31) (h0 : 0 < F) (hq : sN w m F < 2 ^ 31) : ((nI w).toInt64 * (nI m).toInt64 / (nI F).toInt64).toInt32 = nI (sN w m F) := by
  have hp : w * m < 2 ^ 60 := by
    have := Nat.mul_lt_mul'' hw hm
    omega
  have e1 : ((nI w).toInt64 * (nI m).toInt64).toInt = ((w * m : Nat) : Int) := by
    rw [Int64.toInt_mul, Int32.toInt_toInt64, Int32.toInt_toInt64, nI_toInt (by omega), nI_toInt (by omega)]
    rw [← Int.natCast_mul]
    exact Int.bmod_eq_of_le (by omega) (by omega)
  have e2 : ((nI w).toInt64 * (nI m).toInt64 / (nI F).toInt64).toInt = ((sN w m F : Nat) : Int) := by
    rw [Int64.toInt_div, e1, Int32.toInt_toInt64, nI_toInt hF]
    have e3 : ((w * m : Nat) : Int).tdiv (F : Int) = ((w * m / F : Nat) : Int) := by
      rw [Int.ofNat_tdiv]
    rw [e3]
    exact Int.bmod_eq_of_le (by show (-9223372036854775808 : Int) ≤ ((sN w m F : Nat) : Int); omega) (by show ((sN w m F : Nat) : Int) < 9223372036854775808; omega)
  refine nI_t ?_ hq
  rw [Int64.toInt_toInt32, e2]
  exact Int.bmod_eq_of_le (by omega) (by omega)
section
variable {t : Row} {c w0 w1 w2 m F : Nat}
/-- a cellar's wine in plain numbers -/
def WN (t : Row) (c w0 w1 w2 : Nat) : Prop := t (7 + 6 * c + (3 + 0)) = nI w0 ∧ t (7 + 6 * c + (3 + 1)) = nI w1 ∧ t (7 + 6 * c + (3 + 2)) = nI w2
theorem WN.full (h : WN t c w0 w1 w2) : fullT t c = nI (w0 + w1 + w2) := by
  unfold fullT
  rw [show 7 + 6 * c + 3 = 7 + 6 * c + (3 + 0) from rfl, show 7 + 6 * c + 4 = 7 + 6 * c + (3 + 1) from rfl, show 7 + 6 * c + 5 = 7 + 6 * c + (3 + 2) from rfl, h.1, h.2.1, h.2.2, nA, nA]
theorem sh0_nat (h : WN t c w0 w1 w2) (hF : F = w0 + w1 + w2) (h30 : F < 2 ^ 30) (hm : m ≤ F) : sh0 t c (nI m) 0 = nI (sN w0 m F) ∧ sh0 t c (nI m) 1 = nI (sN w1 m F) ∧ sh0 t c (nI m) 2 = nI (sN w2 m F) := by
  have hfull := h.full
  rw [← hF] at hfull
  unfold sh0
  rw [hfull]
  by_cases h0 : F = 0
  · subst h0
    rw [if_pos (show nI 0 = 0 from rfl), if_pos (show nI 0 = 0 from rfl), if_pos (show nI 0 = 0 from rfl)]
    unfold sN
    simp [nI_0]
  · have hne : ¬ nI F = 0 := nI_ne0 (by omega) (by omega)
    rw [if_neg hne, if_neg hne, if_neg hne, h.1, h.2.1, h.2.2]
    have b0 := sN_le (w := w0) hm
    have b1 := sN_le (w := w1) hm
    have b2 := sN_le (w := w2) hm
    exact ⟨sh_l (by omega) (by omega) (by omega) (by omega) (by omega), sh_l (by omega) (by omega) (by omega) (by omega) (by omega), sh_l (by omega) (by omega) (by omega) (by omega) (by omega)⟩
theorem minN {a b : Nat} (ha : a < 2 ^ 31) (hb : b < 2 ^ 31) : minI (nI a) (nI b) = nI (min a b) := nI_t (by rw [min_toInt (nI_toInt ha) (nI_toInt hb)]; omega) (by omega)
/-- what the model takes out -/
theorem goT_nat (h : WN t c w0 w1 w2) (hF : F = w0 + w1 + w2) (h30 : F < 2 ^ 30) (hm : m ≤ F) : goT t c (nI m) 0 = nI (sN w0 m F + m0N w0 w1 w2 m F) ∧ goT t c (nI m) 1 = nI (sN w1 m F + m1N w0 w1 w2 m F) ∧ goT t c (nI m) 2 = nI (sN w2 m F + m2N w0 w1 w2 m F) := by
  obtain ⟨s0, s1, s2⟩ := sh0_nat h hF h30 hm
  have b0 := sN_le (w := w0) hm
  have b1 := sN_le (w := w1) hm
  have b2 := sN_le (w := w2) hm
  have bs := sN_sum hF hm
  have hlk : lk0 t c (nI m) = nI (lkN w0 w1 w2 m F) := by
    unfold lk0 lkN
    rw [s0, s1, s2, pk_sub (by omega), pk_sub (by omega), pk_sub (by omega)]
  have hl : lkN w0 w1 w2 m F ≤ m := by unfold lkN; omega
  have hm0 : mo0 t c (nI m) = nI (m0N w0 w1 w2 m F) := by
    unfold mo0 m0N
    rw [hlk, s0, h.1, pk_sub b0, minN (by omega) (by omega)]
  have hq0 : m0N w0 w1 w2 m F ≤ lkN w0 w1 w2 m F := Nat.min_le_left _ _
  have hm1 : mo1 t c (nI m) = nI (m1N w0 w1 w2 m F) := by
    unfold mo1 m1N
    rw [hlk, hm0, s1, h.2.1, pk_sub hq0, pk_sub b1, minN (by omega) (by omega)]
  have hq1 : m1N w0 w1 w2 m F ≤ lkN w0 w1 w2 m F - m0N w0 w1 w2 m F := Nat.min_le_left _ _
  have hm2 : mo2 t c (nI m) = nI (m2N w0 w1 w2 m F) := by
    unfold mo2 m2N
    rw [hlk, hm0, hm1, s2, h.2.2, pk_sub hq0, pk_sub hq1, pk_sub b2, minN (by omega) (by omega)]
  unfold goT
  rw [if_pos rfl, if_neg (by decide), if_pos rfl, if_neg (by decide), if_neg (by decide), s0, s1, s2, hm0, hm1, hm2, nA, nA, nA]
  exact ⟨rfl, rfl, rfl⟩
/-- the component's shares, what it takes more -/
def aT (t : Row) (c : Nat) (n : Int32) (i : Nat) : Int32 := if fullT t c = 0 then 0 else t (7 + 6 * c + (3 + i)) * n / fullT t c
def reX (t : Row) (c : Nat) (n : Int32) : Nat → Int32
  | 0 => n - aT t c n 0 - aT t c n 1 - aT t c n 2
  | i + 1 => reX t c n i - minI (reX t c n i) (t (7 + 6 * c + (3 + i)) - aT t c n i)
def goX (t : Row) (c : Nat) (n : Int32) (i : Nat) : Int32 := aT t c n i + minI (reX t c n i) (t (7 + 6 * c + (3 + i)) - aT t c n i)
theorem aT_nat {i w : Nat} (hw : t (7 + 6 * c + (3 + i)) = nI w) (hf : fullT t c = nI F) (h30 : F < 2 ^ 30) (hp : w * m < 2 ^ 31) : aT t c (nI m) i = nI (sN w m F) := by
  unfold aT
  rw [hf, hw]
  by_cases h0 : F = 0
  · subst h0; rw [if_pos (show nI 0 = 0 from rfl)]; unfold sN; simp [nI_0]
  · rw [if_neg (nI_ne0 (by omega) (by omega)), pk_mul, pk_div hp (by omega) (by omega)]; rfl
theorem a0_b (h : WN t c w0 w1 w2) (hF : F = w0 + w1 + w2) (h30 : F < 2 ^ 30) (hm : m ≤ F) : -1073741824 < (aT t c (nI m) 0).toInt ∧ (aT t c (nI m) 0).toInt < 1073741824 := by
  have hfull := h.full
  rw [← hF] at hfull
  by_cases hp : w0 * m < 2 ^ 31
  · rw [aT_nat h.1 hfull h30 hp]
    have := sN_le (w := w0) hm
    rw [nI_toInt (by omega)]
    omega
  · have hbig : 46341 ≤ F := Nat.le_of_not_lt fun z => hp (by
      have h1 : w0 ≤ 46340 := by omega
      have h2 : m ≤ 46340 := by omega
      have := Nat.mul_le_mul h1 h2
      omega)
    unfold aT
    rw [hfull, if_neg (nI_ne0 (by omega) (by omega))]
    generalize t (7 + 6 * c + (3 + 0)) * nI m = x
    have h1 := Int32.le_toInt x
    have h2 := Int32.toInt_lt x
    have h3 : (x.toInt.tdiv (F : Int)).natAbs = x.toInt.natAbs / F := by rw [Int.natAbs_tdiv]; rfl
    have h4 : x.toInt.natAbs / F ≤ 2147483648 / 46341 := Nat.le_trans (Nat.div_le_div_right (by omega)) (Nat.div_le_div_left hbig (by decide))
    have h5 : (x / nI F).toInt = x.toInt.tdiv (F : Int) := by
      rw [Int32.toInt_div, nI_toInt (by omega)]
      exact Int.bmod_eq_of_le (by omega) (by omega)
    rw [h5]
    omega
/-- both come to the same -/
theorem goX_eq (h : WN t c w0 w1 w2) (hF : F = w0 + w1 + w2) (h30 : F < 2 ^ 30) (hm : m ≤ F) (hp1 : w1 * m < 2 ^ 31) (hp2 : w2 * m < 2 ^ 31) : ∀ i, i < 3 → goX t c (nI m) i = goT t c (nI m) i := by
  have hfull := h.full
  rw [← hF] at hfull
  obtain ⟨g0, g1, g2⟩ := goT_nat h hF h30 hm
  have b0 := sN_le (w := w0) hm
  have b1 := sN_le (w := w1) hm
  have b2 := sN_le (w := w2) hm
  have bs := sN_sum hF hm
  obtain ⟨a1, a2⟩ := a0_b h hF h30 hm
  have e1 := aT_nat (m := m) h.2.1 hfull h30 hp1
  have e2 := aT_nat (m := m) h.2.2 hfull h30 hp2
  have hl : lkN w0 w1 w2 m F ≤ m := by unfold lkN; omega
  have hq0 : m0N w0 w1 w2 m F ≤ lkN w0 w1 w2 m F := Nat.min_le_left _ _
  have hq1 : m1N w0 w1 w2 m F ≤ lkN w0 w1 w2 m F - m0N w0 w1 w2 m F := Nat.min_le_left _ _
  generalize hα : (aT t c (nI m) 0).toInt = α at a1 a2
  have r0 : (reX t c (nI m) 0).toInt = m - α - sN w1 m F - sN w2 m F := by
    show (nI m - aT t c (nI m) 0 - aT t c (nI m) 1 - aT t c (nI m) 2).toInt = _
    rw [e1, e2]
    exact sub2_toInt (sub2_toInt (sub2_toInt (nI_toInt (by omega)) hα (by omega) (by omega)) (nI_toInt (by omega)) (by omega) (by omega)) (nI_toInt (by omega)) (by omega) (by omega)
  have x0 : (t (7 + 6 * c + (3 + 0)) - aT t c (nI m) 0).toInt = w0 - α := by rw [h.1]; exact sub2_toInt (nI_toInt (by omega)) hα (by omega) (by omega)
  have m0 := min_toInt r0 x0
  have hg0 : goX t c (nI m) 0 = nI (sN w0 m F + m0N w0 w1 w2 m F) := by
    refine nI_t ?_ (by omega)
    show (aT t c (nI m) 0 + minI _ _).toInt = _
    rw [add_toInt hα m0 (by omega) (by omega)]
    unfold m0N lkN
    omega
  have hr1 : reX t c (nI m) 1 = nI (lkN w0 w1 w2 m F - m0N w0 w1 w2 m F) := by
    refine nI_t ?_ (by omega)
    show (reX t c (nI m) 0 - minI _ _).toInt = _
    rw [sub2_toInt r0 m0 (by omega) (by omega)]
    unfold m0N lkN
    omega
  have hm1 : minI (reX t c (nI m) 1) (t (7 + 6 * c + (3 + 1)) - aT t c (nI m) 1) = nI (m1N w0 w1 w2 m F) := by
    rw [hr1, e1, h.2.1, pk_sub b1, minN (by omega) (by omega)]; rfl
  have hg1 : goX t c (nI m) 1 = nI (sN w1 m F + m1N w0 w1 w2 m F) := by
    show aT t c (nI m) 1 + minI _ _ = _
    rw [hm1, e1, nA]
  have hr2 : reX t c (nI m) 2 = nI (lkN w0 w1 w2 m F - m0N w0 w1 w2 m F - m1N w0 w1 w2 m F) := by
    show reX t c (nI m) 1 - minI _ _ = _
    rw [hm1, hr1, pk_sub hq1]
  have hg2 : goX t c (nI m) 2 = nI (sN w2 m F + m2N w0 w1 w2 m F) := by
    show aT t c (nI m) 2 + minI _ _ = _
    rw [hr2, e2, h.2.2, pk_sub b2, minN (by omega) (by omega), nA]; rfl
  intro i hi
  rcases (show i = 0 ∨ i = 1 ∨ i = 2 by omega) with rfl | rfl | rfl
  · rw [hg0, g0]
  · rw [hg1, g1]
  · rw [hg2, g2]
end
