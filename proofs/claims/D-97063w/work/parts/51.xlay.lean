/-! THE COMPONENT's world: places. 0 the object; 1 + f its array of the field f; 30 + j a town, 33 + 10 j + f its array of the field f; 100 + 8 j + k a cellar, 200 + 8 j + k its wines; 70 + k, 75 + k holders of sheets, of slots; 80 + k, 90 + k what they hold; 230 + k wines of a slot's cellar. Trees and texts stay at 10000 + address. -/
set_option maxRecDepth 100000
/-- the component's addresses: the object, its arrays by field, the towns, their arrays by field, cellars, wines -/
abbrev XA : Type := Nat × (Nat → Nat) × (Nat → Nat) × (Nat → Nat → Nat) × (Nat → Nat → Nat) × (Nat → Nat → Nat)
abbrev XA.x (A : XA) : Nat := A.1
abbrev XA.ar (A : XA) : Nat → Nat := A.2.1
abbrev XA.tw (A : XA) : Nat → Nat := A.2.2.1
abbrev XA.ta (A : XA) : Nat → Nat → Nat := A.2.2.2.1
abbrev XA.ce (A : XA) : Nat → Nat → Nat := A.2.2.2.2.1
abbrev XA.wi (A : XA) : Nat → Nat → Nat := A.2.2.2.2.2
def xA (f : Nat) : Option (Nat × Nat) := match f with
  | 0 => some (0, 3)
  | 5 => some (0, 128)
  | 6 => some (2, 96)
  | 16 => some (8, 4)
  | 17 => some (8, 5)
  | 18 => some (0, 60)
  | _ => none
def tA (f : Nat) : Option (Nat × Nat) := match f with
  | 7 => some (0, 13)
  | 8 => some (0, 13)
  | 9 => some (0, 13)
  | 10 => some (1, 13)
  | 11 => some (6, 8)
  | 12 => some (7, 14)
  | _ => none
/-- the object, its arrays -/
def LayO (th : Th) (rh : Rh) (A : XA) : Prop := th A.x = some (0, .inl 0) ∧ ∀ f t n, xA f = some (t, n) → rh 0 f = some (A.ar f) ∧ th (A.ar f) = some (1 + f, .inr (t, n))
/-- a cellar: its address, its wines', their places, its kind -/
def LayC (th : Th) (rh : Rh) (x c w P Q kd : Nat) : Prop := th c = some (P, .inl (4 + kd)) ∧ rh P 2 = some w ∧ rh P 3 = some x ∧ th w = some (Q, .inr (0, 3)) ∧ kd ≤ 5
/-- the place of a town's array -/
def tPl (j f : Nat) : Nat := match f with
  | 7 => 40 + 10 * j
  | 8 => 41 + 10 * j
  | 9 => 42 + 10 * j
  | 10 => 43 + 10 * j
  | 11 => 44 + 10 * j
  | _ => 45 + 10 * j
/-- a town without its cellars -/
def LayW (th : Th) (rh : Rh) (A : XA) (j : Nat) : Prop := th (A.tw j) = some (30 + j, .inl 1) ∧ (∀ f t n, tA f = some (t, n) → rh (30 + j) f = some (A.ta j f) ∧ th (A.ta j f) = some (tPl j f, .inr (t, n))) ∧ rh (30 + j) 13 = some A.x
/-- a town's cellars: K tells which there are, and their kinds -/
def LayK (th : Th) (rh : Rh) (A : XA) (j : Nat) (K : Nat → Option Nat) : Prop := ∀ k, k < 8 → match K k with
  | none => rh (44 + 10 * j) k = none
  | some kd => rh (44 + 10 * j) k = some (A.ce j k) ∧ LayC th rh A.x (A.ce j k) (A.wi j k) (100 + 8 * j + k) (200 + 8 * j + k) kd
/-- the class of a cellar, of whatever kind -/
theorem gC4 {kd : Nat} (h : kd ≤ 5) : ∃ r : vw_C, gCl[4 + kd]? = some r ∧ r.2.2 = 4 ∧ r.2.1 0 = ("LevelCellars$Cellar", "floor", "I", false) ∧ r.2.1 1 = ("LevelCellars$Cellar", "lip", "I", false) ∧ r.2.1 2 = ("LevelCellars$Cellar", "wines", "[I", true) ∧ r.2.1 3 = ("LevelCellars$Cellar", "this$0", "LLevelCellars;", true) ∧ gR (4 + kd) 0 = false ∧ gR (4 + kd) 1 = false ∧ gR (4 + kd) 2 = true ∧ gR (4 + kd) 3 = true ∧ (r.1 = "LevelCellars$Cellar" ∨ Cond.castable r.1 "LevelCellars$Cellar" ∈ lw_tbl) := by
  rcases (show kd = 0 ∨ kd = 1 ∨ kd = 2 ∨ kd = 3 ∨ kd = 4 ∨ kd = 5 by omega) with rfl | rfl | rfl | rfl | rfl | rfl
  · exact ⟨_, rfl, rfl, rfl, rfl, rfl, rfl, rfl, rfl, rfl, rfl, Or.inl rfl⟩
  · exact ⟨_, rfl, rfl, rfl, rfl, rfl, rfl, rfl, rfl, rfl, rfl, Or.inr q1872⟩
  · exact ⟨_, rfl, rfl, rfl, rfl, rfl, rfl, rfl, rfl, rfl, rfl, Or.inr q1873⟩
  · exact ⟨_, rfl, rfl, rfl, rfl, rfl, rfl, rfl, rfl, rfl, rfl, Or.inr q1875⟩
  · exact ⟨_, rfl, rfl, rfl, rfl, rfl, rfl, rfl, rfl, rfl, rfl, Or.inr q1871⟩
  · exact ⟨_, rfl, rfl, rfl, rfl, rfl, rfl, rfl, rfl, rfl, rfl, Or.inr q1874⟩
/-- a town's numbers are those of a row -/
def RepT (ka : Ka) (j : Nat) (t : Row) : Prop :=
  (ka (30 + j) 0 = t 1 ∧ ka (30 + j) 1 = t 2 ∧ ka (30 + j) 2 = t 6 ∧ ka (30 + j) 3 = t 3 ∧ ka (30 + j) 4 = t 4 ∧ ka (30 + j) 5 = t 5 ∧ ka (30 + j) 6 = t 0) ∧
  (∀ p, p < 13 → ka (40 + 10 * j) p = t (55 + 4 * p + 0) ∧ ka (41 + 10 * j) p = t (55 + 4 * p + 1) ∧ ka (42 + 10 * j) p = t (55 + 4 * p + 2) ∧ ka (43 + 10 * j) p = t (55 + 4 * p + 3)) ∧
  ∀ k, k < nC t → ka (100 + 8 * j + k) 0 = t (7 + 6 * k + 1) ∧ ka (100 + 8 * j + k) 1 = t (7 + 6 * k + 2) ∧ ∀ i, i < 3 → ka (200 + 8 * j + k) i = t (7 + 6 * k + (3 + i))
/-- the kinds are the row's -/
def KdT (K : Nat → Option Nat) (t : Row) : Prop := ∀ k, k < nC t → ∃ kd, K k = some kd ∧ t (7 + 6 * k + 0) = nI kd
/-- what two numbers give by a sign (a letter of the text) -/
def twV (s a b : Int32) : Int32 := if s = 43 then a + b else if s = 45 then a - b else if s = 42 then a * b else if s = 47 then (if b = 0 then 0 else a / b) else if s = 60 then (if a < b then 1 else 0) else if s = 61 then (if a = b then 1 else 0) else if s = 62 then (if b < a then 1 else 0) else if s = 38 then (if a ≠ 0 ∧ b ≠ 0 then 1 else 0) else (if a ≠ 0 ∨ b ≠ 0 then 1 else 0)
/-- a tree that lies at e, no higher than h; its code for a key -/
def TrAt (th : Th) (rh : Rh) (ka : Ka) (x : Nat) (key : Int32) : Nat → List Int32 → Nat → Prop
  | 0, _, _ => False
  | h + 1, C, e => (∃ v : Int32, th e = some (10000 + e, .inl 12) ∧ ka (10000 + e) 0 = v ∧ C = [v] ∧ 0 ≤ v ∧ v < 10000) ∨
    (∃ k : Nat, k < 128 ∧ th e = some (10000 + e, .inl 13) ∧ ka (10000 + e) 0 = nI k ∧ rh (10000 + e) 1 = some x ∧ 0 ≤ nameT key (nI k) ∧ C = [10000 + nameT key (nI k)]) ∨
    (∃ (D : List Int32) (d : Nat), th e = some (10000 + e, .inl 14) ∧ rh (10000 + e) 0 = some d ∧ C = D ++ [-10] ∧ TrAt th rh ka x key h D d) ∨
    (∃ (D E : List Int32) (c d : Nat) (s : Int32), th e = some (10000 + e, .inl 10) ∧ ka (10000 + e) 0 = s ∧ rh (10000 + e) 1 = some c ∧ rh (10000 + e) 2 = some d ∧ C = D ++ (E ++ [sgnV s]) ∧ sgnV s ≠ 0 ∧ TrAt th rh ka x key h D c ∧ TrAt th rh ka x key h E d)
/-- what lies at its own place stays -/
def Keeps (th : Th) (rh : Rh) (ka : Ka) (th' : Th) (rh' : Rh) (ka' : Ka) : Prop := ∀ a sh, th a = some (10000 + a, sh) → th' a = some (10000 + a, sh) ∧ rh' (10000 + a) = rh (10000 + a) ∧ ka' (10000 + a) = ka (10000 + a)
theorem Keeps.refl {th : Th} {rh : Rh} {ka : Ka} : Keeps th rh ka th rh ka := fun _ _ h => ⟨h, rfl, rfl⟩
theorem Keeps.trans {th1 th2 th3 : Th} {rh1 rh2 rh3 : Rh} {ka1 ka2 ka3 : Ka} (h1 : Keeps th1 rh1 ka1 th2 rh2 ka2) (h2 : Keeps th2 rh2 ka2 th3 rh3 ka3) : Keeps th1 rh1 ka1 th3 rh3 ka3 := fun a sh h => by
  obtain ⟨a1, a2, a3⟩ := h1 a sh h
  obtain ⟨b1, b2, b3⟩ := h2 a sh a1
  exact ⟨b1, b2.trans a2, b3.trans a3⟩
theorem TrAt.keeps {th : Th} {rh : Rh} {ka : Ka} {th' : Th} {rh' : Rh} {ka' : Ka} {x : Nat} {key : Int32} (h : Keeps th rh ka th' rh' ka') : ∀ {n : Nat} {C : List Int32} {e : Nat}, TrAt th rh ka x key n C e → TrAt th' rh' ka' x key n C e
  | 0, _, _, q => q
  | n + 1, C, e, q => by
    rcases q with ⟨v, q1, q2, q3⟩ | ⟨k, hk, q1, q2, q3, q4⟩ | ⟨D, d, q1, q2, q3, q4⟩ | ⟨D, E, c, d, s, q1, q2, q3, q4, q5, q6, q7, q8⟩
    · obtain ⟨h1, h2, h3⟩ := h e _ q1
      exact Or.inl ⟨v, h1, by rw [h3]; exact q2, q3⟩
    · obtain ⟨h1, h2, h3⟩ := h e _ q1
      exact Or.inr (Or.inl ⟨k, hk, h1, by rw [h3]; exact q2, by rw [h2]; exact q3, q4⟩)
    · obtain ⟨h1, h2, h3⟩ := h e _ q1
      exact Or.inr (Or.inr (Or.inl ⟨D, d, h1, by rw [h2]; exact q2, q3, q4.keeps h⟩))
    · obtain ⟨h1, h2, h3⟩ := h e _ q1
      exact Or.inr (Or.inr (Or.inr ⟨D, E, c, d, s, h1, by rw [h3]; exact q2, by rw [h2]; exact q3, by rw [h2]; exact q4, q5, q6, q7.keeps h, q8.keeps h⟩))
theorem TrAt.mono {th : Th} {rh : Rh} {ka : Ka} {x : Nat} {key : Int32} : ∀ {n m : Nat} {C : List Int32} {e : Nat}, n ≤ m → TrAt th rh ka x key n C e → TrAt th rh ka x key m C e
  | 0, _, _, _, _, q => absurd q id
  | n + 1, m, C, e, hm, q => by
    obtain ⟨m, rfl⟩ : ∃ m', m = m' + 1 := ⟨m - 1, by omega⟩
    have ih : ∀ {C e}, TrAt th rh ka x key n C e → TrAt th rh ka x key m C e := fun q => TrAt.mono (by omega) q
    rcases q with q | q | ⟨D, d, q1, q2, q3, q4⟩ | ⟨D, E, c, d, s, q1, q2, q3, q4, q5, q6, q7, q8⟩
    · exact Or.inl q
    · exact Or.inr (Or.inl q)
    · exact Or.inr (Or.inr (Or.inl ⟨D, d, q1, q2, q3, ih q4⟩))
    · exact Or.inr (Or.inr (Or.inr ⟨D, E, c, d, s, q1, q2, q3, q4, q5, q6, ih q7, ih q8⟩))
theorem But.keeps {S : List Nat} {ka kb : Ka} {th : Th} {rh : Rh} (h : But S ka kb) (hs : ∀ j ∈ S, j < 10000) : Keeps th rh ka th rh kb := fun a sh q => ⟨q, rfl, h _ (fun z => by have := hs _ z; omega)⟩
/-- a text as it lies: its key, how many words, its tree's code -/
def TxAt (th : Th) (rh : Rh) (ka : Ka) (x a : Nat) (key : Nat) (words : Int32) (C : List Int32) : Prop := th a = some (10000 + a, .inl 15) ∧ ka (10000 + a) 0 = nI key ∧ ka (10000 + a) 1 = words ∧ ∃ e, rh (10000 + a) 2 = some e ∧ TrAt th rh ka x (nI key) 100 C e
theorem TxAt.keeps {th : Th} {rh : Rh} {ka : Ka} {th' : Th} {rh' : Rh} {ka' : Ka} {x a key : Nat} {words : Int32} {C : List Int32} (h : Keeps th rh ka th' rh' ka') (q : TxAt th rh ka x a key words C) : TxAt th' rh' ka' x a key words C := by
  obtain ⟨h1, h2, h3⟩ := h a _ q.1
  obtain ⟨q1, q2, q3, e, q4, q5⟩ := q
  exact ⟨h1, by rw [h3]; exact q2, by rw [h3]; exact q3, e, by rw [h2]; exact q4, q5.keeps h⟩
/-- a town's texts are a row's -/
def RepX (th : Th) (rh : Rh) (ka : Ka) (x j : Nat) (t : Row) : Prop := ∀ i, i < nX t → ∃ (a key : Nat), rh (45 + 10 * j) i = some a ∧ key < 3 ∧ TxAt th rh ka x a key (t (107 + 2 * i + 1)) (codeT t i) ∧ t (107 + 2 * i) = nI (1000 * key + lenT t i)
theorem LayK.at {th : Th} {rh : Rh} {A : XA} {j : Nat} {K : Nat → Option Nat} (h : LayK th rh A j K) {k kd : Nat} (hk : k < 8) (e : K k = some kd) : rh (44 + 10 * j) k = some (A.ce j k) ∧ LayC th rh A.x (A.ce j k) (A.wi j k) (100 + 8 * j + k) (200 + 8 * j + k) kd := by
  have := h k hk
  rw [e] at this
  exact this
theorem LayK.nil {th : Th} {rh : Rh} {A : XA} {j : Nat} {K : Nat → Option Nat} (h : LayK th rh A j K) {k : Nat} (hk : k < 8) (e : K k = none) : rh (44 + 10 * j) k = none := by
  have := h k hk
  rw [e] at this
  exact this
/-- a town, whole: the object, the town's arrays, its cellars, and a row that it is -/
def Tn (th : Th) (rh : Rh) (ka : Ka) (A : XA) (j : Nat) (K : Nat → Option Nat) (t : Row) : Prop := LayO th rh A ∧ LayW th rh A j ∧ LayK th rh A j K ∧ KdT K t ∧ Rok t ∧ RepT ka j t ∧ RepX th rh ka A.x j t
theorem RepT.but {ka kb : Ka} {j : Nat} {t : Row} (h : RepT ka j t) (hb : ∀ q, 30 ≤ q → q < 300 → kb q = ka q) (hj : j ≤ 2) (hn : nC t ≤ 8) : RepT kb j t := by
  obtain ⟨h1, h2, h3⟩ := h
  rw [RepT, hb (30 + j) (by omega) (by omega), hb (40 + 10 * j) (by omega) (by omega), hb (41 + 10 * j) (by omega) (by omega), hb (42 + 10 * j) (by omega) (by omega), hb (43 + 10 * j) (by omega) (by omega)]
  refine ⟨h1, h2, fun k hk => ?_⟩
  rw [hb (100 + 8 * j + k) (by omega) (by omega), hb (200 + 8 * j + k) (by omega) (by omega)]
  exact h3 k hk
theorem Tn.but {th : Th} {rh : Rh} {ka kb : Ka} {A : XA} {j : Nat} {K : Nat → Option Nat} {t : Row} (h : Tn th rh ka A j K t) {S : List Nat} (hb : But S ka kb) (hj : j ≤ 2) (hs : ∀ q ∈ S, q < 30) : Tn th rh kb A j K t := by
  obtain ⟨h1, h2, h3, h4, h5, h6, h7⟩ := h
  refine ⟨h1, h2, h3, h4, h5, h6.but (fun q hq _ => hb q (fun z => by have := hs q z; omega)) hj h5.1.2, fun i hi => ?_⟩
  obtain ⟨a, key, q1, q2, q3, q4⟩ := h7 i hi
  exact ⟨a, key, q1, q2, q3.keeps (hb.keeps (fun q hq => by have := hs q hq; omega)), q4⟩
