/-! TEXTS: the machine that settles signs -/
set_option maxRecDepth 100000
def rankT (x : Int32) : Int32 := if x = -1 then 1 else if x = -2 then 2 else if -5 ≤ x then 3 else if -7 ≤ x then 4 else if -9 ≤ x then 5 else 6
def nameT (key l : Int32) : Int32 := if key = 0 then (if l = 102 then 0 else if l = 108 then 1 else if l = 119 then 2 else -1) else if key = 1 then (if l = 115 then 0 else if l = 104 then 1 else -1) else (if l = 119 then 0 else if l = 108 then 1 else -1)
def sgnV (v : Int32) : Int32 := if v = 38 then -2 else if v = 42 then -8 else if v = 43 then -6 else if v = 45 then -7 else if v = 47 then -9 else if v = 60 then -3 else if v = 61 then -4 else if v = 62 then -5 else if v = 124 then -1 else 0
def sgnT (tok v : Int32) : Int32 := if tok = 3 then sgnV v else 0
/-- a stack in a row, its top first -/
def Stk (r : Row) : List Int32 → Prop
  | [] => True
  | x :: W => r W.length = x ∧ Stk r W
theorem Stk.congr {r u : Row} : ∀ {W : List Int32}, (∀ i, i < W.length → u i = r i) → Stk r W → Stk u W
  | [], _, _ => trivial
  | _ :: _, h, hs => ⟨(h _ (by simp)).trans hs.1, Stk.congr (fun i hi => h i (by simp; omega)) hs.2⟩
theorem Stk.push {r : Row} {W : List Int32} (h : Stk r W) (x : Int32) : Stk (rw1 r W.length x) (x :: W) := ⟨rw1_s _ _ _, h.congr (fun _ hi => rw1_n _ (by omega))⟩
/-- settled: signs of a rank go from the stack to the code -/
def setl (k : Int32) : List Int32 → List Int32 → List Int32 × List Int32
  | [], C => ([], C)
  | x :: W, C => if x = -11 ∨ rankT x < k then (x :: W, C) else setl k W (x :: C)
theorem setl_len {k : Int32} : ∀ {W C : List Int32}, (setl k W C).1.length + (setl k W C).2.length = W.length + C.length ∧ (setl k W C).1.length ≤ W.length
  | [], C => ⟨rfl, Nat.le_refl _⟩
  | x :: W, C => by
    unfold setl
    by_cases h : x = -11 ∨ rankT x < k
    · rw [if_pos h]; exact ⟨rfl, Nat.le_refl _⟩
    · rw [if_neg h]
      have := setl_len (k := k) (W := W) (C := x :: C)
      simp only [List.length_cons] at this ⊢
      omega
theorem setl_stk {r : Row} {k : Int32} : ∀ {W C : List Int32}, Stk r W → Stk r (setl k W C).1
  | [], _, h => h
  | x :: W, C, h => by
    unfold setl
    by_cases c : x = -11 ∨ rankT x < k
    · rw [if_pos c]; exact h
    · rw [if_neg c]; exact setl_stk h.2
def cntN (W : List Int32) : Nat := W.countP (· == -10)
/-- how many nots, of the first ones -/
def cntI (r : Row) : Nat → Nat
  | 0 => 0
  | k + 1 => cntI r k + (if r k = -10 then 1 else 0)
theorem cntI_le {r : Row} : ∀ k, cntI r k ≤ k
  | 0 => Nat.le_refl _
  | k + 1 => by
    have := cntI_le (r := r) k
    unfold cntI
    split <;> omega
theorem cntI_stk {r : Row} : ∀ {Y : List Int32}, Stk r Y → cntI r Y.length = cntN Y
  | [], _ => rfl
  | x :: Y, h => by
    show cntI r Y.length + _ = _
    rw [cntI_stk h.2, h.1]
    unfold cntN
    rw [List.countP_cons]
    by_cases q : x = -10
    · subst q; simp
    · simp [q]
/-- a number or a name stands here -/
def isPt (g : Row) : Prop := g 11 = 2 ∨ (g 11 = 1 ∧ g 9 - g 10 = 1 ∧ 0 ≤ nameT (g 14) (g 12))
def ptV (g : Row) : Int32 := if g 11 = 2 then g 12 else 10000 + nameT (g 14) (g 12)
theorem goG_keep {tp g : Row} {n a j : Nat} (h : j < 9 ∨ 13 < j) : goG tp g n a j = g j := by
  unfold goG
  split
  · rw [rw1_n _ (by omega), rw1_n _ (by omega), rw1_n _ (by omega)]
  · split
    · rw [rw1_n _ (by omega), rw1_n _ (by omega), rw1_n _ (by omega), rw1_n _ (by omega), rw1_n _ (by omega)]
    · split
      · rw [rw1_n _ (by omega), rw1_n _ (by omega), rw1_n _ (by omega), rw1_n _ (by omega), rw1_n _ (by omega)]
      · rw [rw1_n _ (by omega), rw1_n _ (by omega), rw1_n _ (by omega), rw1_n _ (by omega)]
theorem goF_keep {tp g : Row} {j : Nat} (h : j < 9 ∨ 13 < j) : goF tp g j = g j := goG_keep h
theorem rw1_congr {t u : Row} {i j : Nat} {v : Int32} (h : t j = u j) : rw1 t i v j = rw1 u i v j := by
  by_cases q : j = i
  · subst q; rw [rw1_s, rw1_s]
  · rw [rw1_n _ q, rw1_n _ q, h]
theorem goG_congr {tp g h : Row} {n a j : Nat} (h13 : g 13 = h 13) (hj : g j = h j) : goG tp g n a j = goG tp h n a j := by
  unfold goG
  rw [h13]
  split
  · exact rw1_congr (rw1_congr (rw1_congr hj))
  · split
    · exact rw1_congr (rw1_congr (rw1_congr (rw1_congr (rw1_congr hj))))
    · split
      · exact rw1_congr (rw1_congr (rw1_congr (rw1_congr (rw1_congr hj))))
      · exact rw1_congr (rw1_congr (rw1_congr (rw1_congr hj)))
theorem goF_congr {tp g h : Row} {j : Nat} (h8 : g 8 = h 8) (h9 : g 9 = h 9) (h13 : g 13 = h 13) (hj : g j = h j) : goF tp g j = goF tp h j := by
  unfold goF
  rw [h8, h9]
  exact goG_congr h13 hj
/-- the keys: their letters, and where each begins -/
def kA (w : Nat) : Nat := if w = 0 then 0 else if w = 1 then 4 else if w = 2 then 7 else 11
def kC (i : Nat) : Int32 := ([104, 105, 103, 104, 102, 101, 101, 102, 105, 110, 101] : List Int32).getD i 0
def Kok (s : Ka) : Prop := (∀ i, i < 11 → s 15 i = kC i) ∧ ∀ w, w < 4 → s 16 w = nI (kA w)
theorem kA_le {w : Nat} (h : w < 3) : kA w < kA (w + 1) ∧ kA (w + 1) ≤ 11 := by
  rcases (show w = 0 ∨ w = 1 ∨ w = 2 by omega) with rfl | rfl | rfl <;> decide
/-- the word from f to x is a key -/
def kwT (tp : Row) (f x w : Nat) : Prop := kA (w + 1) - kA w = x - f ∧ ∀ k, k < kA (w + 1) - kA w → tp (f + k) = kC (kA w + k)
