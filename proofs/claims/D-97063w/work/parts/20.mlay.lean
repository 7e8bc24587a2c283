/-! THE MODEL's world: one object, its arrays -/
set_option maxRecDepth 100000
/-- the arrays of the model's object, by the number of the field: type, length -/
def mA (j : Nat) : Option (Nat × Nat) := match j with
  | 0 => some (0, 1479)
  | 1 => some (0, 1479)
  | 2 => some (0, 1479)
  | 4 => some (0, 3)
  | 5 => some (0, 107)
  | 6 => some (0, 8)
  | 7 => some (0, 96)
  | 15 => some (3, 11)
  | 16 => some (0, 4)
  | 17 => some (0, 96)
  | 20 => some (0, 96)
  | 22 => some (1, 10)
  | 23 => some (0, 96)
  | 24 => some (0, 4)
  | 25 => some (0, 4)
  | 26 => some (0, 4)
  | 27 => some (0, 96)
  | 28 => some (0, 5)
  | 29 => some (0, 5)
  | 30 => some (0, 5)
  | 31 => some (0, 120)
  | 32 => some (0, 24)
  | 33 => some (0, 60)
  | _ => none
/-- the model's object stands at y0, its arrays at ay -/
def LayM (th : Th) (rh : Rh) (y0 : Nat) (ay : Nat → Nat) : Prop := th y0 = some (1099, .inl 3) ∧ ∀ j t n, mA j = some (t, n) → rh 1099 j = some (ay j) ∧ th (ay j) = some (1000 + j, .inr (t, n))
/-- all rows but those of S are as they were -/
def But (S : List Nat) (ka ka' : Ka) : Prop := ∀ j, j ∉ S → ka' j = ka j
theorem But.refl {S : List Nat} {ka : Ka} : But S ka ka := fun _ _ => rfl
theorem But.trans {S : List Nat} {a b c : Ka} (h1 : But S a b) (h2 : But S b c) : But S a c := fun j hj => (h2 j hj).trans (h1 j hj)
theorem But.mono {S T : List Nat} {a b : Ka} (h : But S a b) (hs : ∀ j, j ∈ S → j ∈ T) : But T a b := fun j hj => h j (fun z => hj (hs j z))
theorem But.up {S : List Nat} {a : Ka} {p i : Nat} {v : Int32} (h : p ∈ S) : But S a (up2 a p i v) := fun j hj => up2_a _ _ _ (fun z => hj (z ▸ h))
/-- copying, one place more -/
theorem cp_step {ka kb kc : Ka} {pa pb i : Nat} (e : kc = up2 kb pb i (ka pa i)) (hk : ∀ j, kb pb j = if j < i then ka pa j else ka pb j) : ∀ j, kc pb j = if j < i + 1 then ka pa j else ka pb j := by
  intro j
  rw [e]
  by_cases hj : j = i
  · subst hj
    rw [up2_s, if_pos (by omega)]
  · rw [up2_i _ _ _ _ hj, hk j]
    by_cases h2 : j < i
    · rw [if_pos h2, if_pos (by omega)]
    · rw [if_neg h2, if_neg (by omega)]
theorem fw_step {kb kc : Ka} {p i : Nat} {f : Nat → Int32} (e : kc = up2 kb p i (f i)) (h : ∀ j, j < i → kb p j = f j) : ∀ j, j < i + 1 → kc p j = f j := by
  intro j hj
  rw [e]
  by_cases q : j = i
  · rw [q, up2_s]
  · rw [up2_i _ _ _ _ q]; exact h j (by omega)
