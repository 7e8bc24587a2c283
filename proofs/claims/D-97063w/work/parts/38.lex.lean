/-! TEXTS: what is read, sign by sign -/
set_option maxRecDepth 100000
abbrev ltr (tp : Row) (n k : Nat) : Prop := k < n ∧ 97 ≤ tp k ∧ tp k ≤ 122
abbrev fig (tp : Row) (n k : Nat) : Prop := k < n ∧ 48 ≤ tp k ∧ tp k ≤ 57
/-- behind the blanks -/
def skT (tp : Row) (n : Nat) : Nat → Nat → Nat
  | 0, k => k
  | f + 1, k => if k < n ∧ tp k = 32 then skT tp n f (k + 1) else k
def skp (tp : Row) (n k : Nat) : Nat := skT tp n (n - k) k
/-- behind the letters -/
def leT (tp : Row) (n : Nat) : Nat → Nat → Nat
  | 0, k => k
  | f + 1, k => if ltr tp n k then leT tp n f (k + 1) else k
def lend (tp : Row) (n k : Nat) : Nat := leT tp n (n - k) k
/-- behind the figures, and what they say -/
def fgT (tp : Row) (n a : Nat) : Nat → Nat → Int32 → Nat × Int32
  | 0, k, v => (k, v)
  | f + 1, k, v => if fig tp n k then fgT tp n a f (k + 1) (if k - a < 4 then 10 * v + tp k - 48 else v) else (k, v)
def fend (tp : Row) (n k : Nat) : Nat × Int32 := fgT tp n k (n - k) k 0
theorem skT_le {tp : Row} {n : Nat} : ∀ {f k : Nat}, k + f = n → k ≤ skT tp n f k ∧ skT tp n f k ≤ n ∧ ¬ (skT tp n f k < n ∧ tp (skT tp n f k) = 32)
  | 0, k, h => ⟨Nat.le_refl _, by show k ≤ n; omega, by show ¬ (k < n ∧ _); omega⟩
  | f + 1, k, h => by
    unfold skT
    by_cases c : k < n ∧ tp k = 32
    · rw [if_pos c]
      have := skT_le (tp := tp) (n := n) (f := f) (k := k + 1) (by omega)
      exact ⟨by omega, this.2⟩
    · rw [if_neg c]; exact ⟨Nat.le_refl _, by omega, c⟩
theorem leT_le {tp : Row} {n : Nat} : ∀ {f k : Nat}, k + f = n → k ≤ leT tp n f k ∧ leT tp n f k ≤ n
  | 0, k, h => ⟨Nat.le_refl _, by show k ≤ n; omega⟩
  | f + 1, k, h => by
    unfold leT
    by_cases c : ltr tp n k
    · rw [if_pos c]
      have := leT_le (tp := tp) (n := n) (f := f) (k := k + 1) (by omega)
      exact ⟨by omega, this.2⟩
    · rw [if_neg c]; exact ⟨Nat.le_refl _, by omega⟩
theorem fgT_le {tp : Row} {n a : Nat} : ∀ {f k : Nat} {v : Int32}, k + f = n → k ≤ (fgT tp n a f k v).1 ∧ (fgT tp n a f k v).1 ≤ n
  | 0, k, _, h => ⟨Nat.le_refl _, by show k ≤ n; omega⟩
  | f + 1, k, v, h => by
    unfold fgT
    by_cases c : fig tp n k
    · rw [if_pos c]
      have := fgT_le (tp := tp) (n := n) (a := a) (f := f) (k := k + 1) (v := if k - a < 4 then 10 * v + tp k - 48 else v) (by omega)
      exact ⟨by omega, this.2⟩
    · rw [if_neg c]; exact ⟨Nat.le_refl _, by omega⟩
theorem skp_s {tp : Row} {n k : Nat} (h : k < n ∧ tp k = 32) : skp tp n (k + 1) = skp tp n k := by
  unfold skp
  rw [show n - k = (n - (k + 1)) + 1 by omega, skT, if_pos h]
theorem skp_e {tp : Row} {n k : Nat} (h : ¬ (k < n ∧ tp k = 32)) : skp tp n k = k := by
  unfold skp
  cases e : n - k with
  | zero => rfl
  | succ f => rw [skT, if_neg h]
theorem lend_s {tp : Row} {n k : Nat} (h : ltr tp n k) : lend tp n (k + 1) = lend tp n k := by
  unfold lend
  rw [show n - k = (n - (k + 1)) + 1 by omega, leT, if_pos h]
theorem lend_e {tp : Row} {n k : Nat} (h : ¬ ltr tp n k) : lend tp n k = k := by
  unfold lend
  cases e : n - k with
  | zero => rfl
  | succ f => rw [leT, if_neg h]
theorem fgT_s {tp : Row} {n a k : Nat} {v : Int32} (h : fig tp n k) : fgT tp n a (n - (k + 1)) (k + 1) (if k - a < 4 then 10 * v + tp k - 48 else v) = fgT tp n a (n - k) k v := by
  rw [show n - k = (n - (k + 1)) + 1 by omega, fgT, if_pos h]
theorem fgT_e {tp : Row} {n a k : Nat} {v : Int32} (h : ¬ fig tp n k) : fgT tp n a (n - k) k v = (k, v) := by
  cases e : n - k with
  | zero => rfl
  | succ f => rw [fgT, if_neg h]
/-- the model's fields behind 'go': 8 taped, 9 next, 10 from, 11 token, 12 value, 13 ended -/
def goG (tp g : Row) (n a : Nat) : Row :=
  if a = n then rw1 (rw1 (rw1 g 9 (nI a)) 10 (nI a)) 11 0
  else if ltr tp n a then rw1 (rw1 (rw1 (rw1 (rw1 g 9 (nI (lend tp n a))) 10 (nI a)) 11 (if nI a = g 13 then 4 else 1)) 12 (tp a)) 13 (nI (lend tp n a))
  else if fig tp n a then rw1 (rw1 (rw1 (rw1 (rw1 g 9 (nI (fend tp n a).1)) 10 (nI a)) 11 (if nI a = g 13 ∨ 4 < (fend tp n a).1 - a then 4 else 2)) 12 (fend tp n a).2) 13 (nI (fend tp n a).1)
  else rw1 (rw1 (rw1 (rw1 g 9 (nI (a + 1))) 10 (nI a)) 11 3) 12 (tp a)
def goF (tp : Row) (g : Row) : Row := goG tp g (cl (g 8)) (skp tp (cl (g 8)) (cl (g 9)))
theorem up2_self {ka : Ka} {p i : Nat} {v : Int32} (h : ka p i = v) : ka = up2 ka p i v := by
  funext a b
  by_cases q : a = p ∧ b = i
  · obtain ⟨rfl, rfl⟩ := q; rw [up2_s, h]
  · unfold up2; rw [if_neg q]
theorem up2_up2 {ka : Ka} {p i : Nat} {v w : Int32} : up2 (up2 ka p i v) p i w = up2 ka p i w := by
  funext a b
  unfold up2
  by_cases q : a = p ∧ b = i
  · rw [if_pos q, if_pos q]
  · rw [if_neg q, if_neg q, if_neg q]
theorem goF_at {tp g : Row} {n x a : Nat} (h8 : g 8 = nI n) (h9 : g 9 = nI x) (hn : n < 2 ^ 31) (hx : x < 2 ^ 31) (ha : skp tp n x = a) : goF tp g = goG tp g n a := by
  unfold goF
  rw [h8, h9, cl_nI hn, cl_nI hx, ha]
/-- writes into a row, as a row -/
theorem up2_w1 (ka : Ka) (p i : Nat) (v : Int32) : up2 ka p i v = up1 ka p (rw1 (ka p) i v) := by
  funext a b
  by_cases q : a = p
  · subst q; rw [up1_s, up2_row]; rfl
  · rw [up1_a _ _ q, up2_a _ _ _ q]
theorem up1_up1 (ka : Ka) (p : Nat) (r t : Row) : up1 (up1 ka p r) p t = up1 ka p t := by
  funext a
  by_cases q : a = p
  · subst q; rw [up1_s, up1_s]
  · rw [up1_a _ _ q, up1_a _ _ q, up1_a _ _ q]
theorem up2_w2 (ka : Ka) (p i : Nat) (r : Row) (v : Int32) : up2 (up1 ka p r) p i v = up1 ka p (rw1 r i v) := by rw [up2_w1, up1_s, up1_up1]
theorem fg_kb {M : Ka} {e e2 : Nat} {v w : Int32} : up2 (up2 (up2 (up2 M 1099 12 v) 1099 9 (nI e)) 1099 12 w) 1099 9 (nI e2) = up2 (up2 M 1099 12 w) 1099 9 (nI e2) := by
  simp only [up2_w1, up2_w2, up1_s, up1_up1]
  congr 1
  funext k
  simp only [rw1, va_up]
  grind
theorem nI_subN {a b : Nat} (h : b ≤ a) : nI a - nI b = nI (a - b) := by
  rw [show nI a = nI (a - b) + nI b by rw [← nA, Nat.sub_add_cancel h]]
  exact Int32.add_sub_cancel _ _
