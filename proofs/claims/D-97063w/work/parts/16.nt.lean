/-! numbers out of the machine's comparisons -/
set_option maxRecDepth 100000
theorem ntLt {x y : Int32} {a b : Nat} (hx : x = nI a) (hy : y = nI b) (ha : a < 2 ^ 31) (hb : b < 2 ^ 31) (h : x < y) : a < b := by rw [hx, hy] at h; exact (nI_ltI ha hb).mp h
theorem ntLe {x y : Int32} {a b : Nat} (hx : x = nI a) (hy : y = nI b) (ha : a < 2 ^ 31) (hb : b < 2 ^ 31) (h : x ≤ y) : a ≤ b := by rw [hx, hy] at h; exact (nI_leI ha hb).mp h
theorem ntEq {x y : Int32} {a b : Nat} (hx : x = nI a) (hy : y = nI b) (ha : a < 2 ^ 31) (hb : b < 2 ^ 31) (h : x = y) : a = b := by rw [hx, hy] at h; exact (nI_eq ha hb).mp h
theorem ntNlt {x y : Int32} {a b : Nat} (hx : x = nI a) (hy : y = nI b) (ha : a < 2 ^ 31) (hb : b < 2 ^ 31) (h : ¬ x < y) : b ≤ a := Nat.not_lt.mp fun z => h (by rw [hx, hy]; exact (nI_ltI ha hb).mpr z)
theorem ntNle {x y : Int32} {a b : Nat} (hx : x = nI a) (hy : y = nI b) (ha : a < 2 ^ 31) (hb : b < 2 ^ 31) (h : ¬ x ≤ y) : b < a := Nat.not_le.mp fun z => h (by rw [hx, hy]; exact (nI_leI ha hb).mpr z)
theorem ntNe {x y : Int32} {a b : Nat} (hx : x = nI a) (hy : y = nI b) (ha : a < 2 ^ 31) (hb : b < 2 ^ 31) (h : ¬ x = y) : a ≠ b := fun z => h (by rw [hx, hy, z])
/-- places are numbers below n -/
theorem isC_iff {c : Int32} {n : Nat} (hn : n < 2 ^ 20) : (0 ≤ c ∧ c ≤ nI n - 1) ↔ ∃ k : Nat, k < n ∧ c = nI k := by
  have e : (nI n - 1).toInt = (n : Int) - 1 := by
    have := pk_sub_toInt (a := n) (b := 1) (by omega) (by decide)
    exact this
  constructor
  · rintro ⟨h1, h2⟩
    rw [i32_le] at h1 h2
    rw [e] at h2
    have h0 : (0 : Int32).toInt = 0 := rfl
    rw [h0] at h1
    exact ⟨c.toInt.toNat, by omega, nI_ofI h1⟩
  · rintro ⟨k, hk, rfl⟩
    refine ⟨nI_pos' (by omega), ?_⟩
    rw [i32_le, e, nI_toInt (by omega)]
    omega
theorem btw_iff {v : Int32} {a b : Nat} (ha : a < 2 ^ 31) (hb : b < 2 ^ 31) : (nI a ≤ v ∧ v ≤ nI b) ↔ ∃ k : Nat, a ≤ k ∧ k ≤ b ∧ v = nI k := by
  constructor
  · rintro ⟨h1, h2⟩; exact nI_btw ha hb h1 h2
  · rintro ⟨k, h1, h2, rfl⟩; exact ⟨nI_le h1 (by omega), nI_le h2 hb⟩
/-- held between -/
def wi (v a b : Int32) : Int32 := if v < a then a else if b < v then b else v
/-- none for what is below 0 -/
def none0 (v : Int32) : Int32 := if v < 0 then (-1000000005) else v
theorem isC_iff' {c x : Int32} {n : Nat} (hx : x = nI n) (hn : n < 2 ^ 20) : (0 ≤ c ∧ c ≤ x - 1) ↔ ∃ k : Nat, k < n ∧ c = nI k := by rw [hx]; exact isC_iff hn
theorem i_nlt {x y : Int32} : ¬ x < y ↔ y ≤ x := by rw [i32_lt, i32_le]; omega
theorem i_nle {x y : Int32} : ¬ x ≤ y ↔ y < x := by rw [i32_lt, i32_le]; omega
theorem pred_pos {x : Int32} {k : Nat} (hx : x = nI k - 1) (h : ¬ x < 0) : ∃ z : Nat, k = z + 1 ∧ x = nI z := by
  cases k with
  | zero => exact absurd (by rw [hx]; decide) h
  | succ z => exact ⟨z, rfl, by rw [hx]; exact nI_pred z⟩
theorem pred_zero {x : Int32} {k : Nat} (hx : x = nI k - 1) (hk : k < 2 ^ 31) (h : x < 0) : k = 0 := by
  cases k with
  | zero => rfl
  | succ z => rw [nI_pred] at hx; rw [hx] at h; exact absurd h (nI_pos (by omega))
theorem m1_sub (x : Int32) : x + Int32.ofInt (-1) = x - 1 := by
  rw [Int32.sub_eq_add_neg]
  congr 1
theorem i2l_ne {x : Int32} (h : ¬ x = 0) : ¬ x.toInt64 = 0 := fun z => h (by
  have h1 : x.toInt64.toInt = 0 := by rw [z]; rfl
  rw [Int32.toInt_toInt64] at h1
  exact Int32.toInt_inj.mp (h1.trans rfl))
theorem i64nle {x : Int64} (h : ¬ 0 ≤ lg_cmp x 0) : x < 0 := Classical.byContradiction fun z => h ((lg_cmp_ge x 0).mpr (Int64.not_lt.mp z))
theorem i64nlt {x : Int64} (h : 0 ≤ lg_cmp x 0) : ¬ x < 0 := Int64.not_lt.mpr ((lg_cmp_ge x 0).mp h)
theorem l64lt {x y : Int64} (h : ¬ 0 ≤ lg_cmp x y) : x < y := Classical.byContradiction fun z => h ((lg_cmp_ge x y).mpr (Int64.not_lt.mp z))
theorem l64nlt {x y : Int64} (h : 0 ≤ lg_cmp x y) : ¬ x < y := Int64.not_lt.mpr ((lg_cmp_ge x y).mp h)
