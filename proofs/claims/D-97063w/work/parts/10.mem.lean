/-! THE WORLD OF A RUN: cells by address (th: place and shape), their ints (ka), references (rh), floats (ph) by place -/
set_option maxRecDepth 100000
abbrev gCl : List vw_C := [(RX0, TX0, 22), (RX1, TX1, 14), (RX2, TX2, 1), (RX3, TX3, 35), (RX4, TX4, 4), (RX5, TX5, 4), (RX6, TX6, 4), (RX7, TX7, 4), (RX8, TX8, 4), (RX9, TX9, 4), (RX10, TX10, 3), (RX11, TX11, 7), (RX12, TX12, 1), (RX13, TX13, 2), (RX14, TX14, 1), (RX15, TX15, 3), (RX16, TX16, 1)]
/-- a field is a reference -/
def gR (ci k : Nat) : Bool := match ci with
  | 0 => decide (k ≤ 3) || k == 5 || k == 6 || k == 16 || k == 17 || k == 18
  | 1 => decide (7 ≤ k)
  | 2 => true
  | 3 => decide (k ≤ 2) || (decide (4 ≤ k) && decide (k ≤ 7)) || (decide (15 ≤ k) && decide (k ≤ 17)) || k == 20 || (decide (22 ≤ k) && decide (k ≤ 33))
  | 4 => decide (2 ≤ k)
  | 5 => decide (2 ≤ k)
  | 6 => decide (2 ≤ k)
  | 7 => decide (2 ≤ k)
  | 8 => decide (2 ≤ k)
  | 9 => decide (2 ≤ k)
  | 10 => decide (1 ≤ k)
  | 11 => decide (k ≤ 4)
  | 13 => decide (1 ≤ k)
  | 14 => true
  | 15 => decide (2 ≤ k)
  | _ => false
/-- the classes' numbers and slots; the array classes; the state at the start -/
abbrev GG : Type := va_G × (Nat → ClassId) × State
abbrev gTys (G : GG) : List (ClassId × FieldType) := [(G.2.1 0, .int), (G.2.1 1, .boolean), (G.2.1 2, .byte), (G.2.1 3, .char), (G.2.1 4, .short), (G.2.1 5, .float), (G.2.1 6, .object "LevelCellars$Cellar"), (G.2.1 7, .object "LevelCellars$Text"), (G.2.1 8, .object "LevelCellars$Holder")]
/-- a shape: an object of a class by its number, or an array: its type's number, its length -/
abbrev Sh : Type := Nat ⊕ (Nat × Nat)
abbrev Th : Type := Nat → Option (Nat × Sh)
abbrev Ka : Type := Nat → Nat → Int32
abbrev Rh : Type := Nat → Nat → Option Nat
abbrev Ph : Type := Nat → Nat → UInt32
def up2 {α : Type} (f : Nat → Nat → α) (a i : Nat) (v : α) : Nat → Nat → α := fun b j => if b = a ∧ j = i then v else f b j
theorem up2_s {α : Type} (f : Nat → Nat → α) (a i : Nat) (v : α) : up2 f a i v a i = v := by simp [up2]
theorem up2_a {α : Type} (f : Nat → Nat → α) {a b : Nat} (i : Nat) (v : α) (h : b ≠ a) : up2 f a i v b = f b := by funext j; simp [up2, h]
theorem up2_i {α : Type} (f : Nat → Nat → α) (a b : Nat) {i j : Nat} (v : α) (h : j ≠ i) : up2 f a i v b j = f b j := by simp [up2, h]
theorem up2_row {α : Type} (f : Nat → Nat → α) (a i : Nat) (v : α) : up2 f a i v a = va_up (f a) i v := by funext j; simp [up2, va_up]
/-- a whole row anew -/
def up1 {α : Type} (f : Nat → Nat → α) (a : Nat) (r : Nat → α) : Nat → Nat → α := va_up f a r
theorem up1_s {α : Type} (f : Nat → Nat → α) (a : Nat) (r : Nat → α) : up1 f a r a = r := by simp [up1, va_up]
theorem up1_a {α : Type} (f : Nat → Nat → α) {a b : Nat} (r : Nat → α) (h : b ≠ a) : up1 f a r b = f b := by simp [up1, va_up, h]
def gV (ci : Nat) (kp : Nat → Int32) (rp : Nat → Option Nat) (k : Nat) : Value := if gR ci k = true then va_rf (rp k) else .int (kp k)
def gE (t : Nat) (kp : Nat → Int32) (rp : Nat → Option Nat) (pp : Nat → UInt32) (i : Nat) : Value := if t < 5 then .int (kp i) else if t = 5 then .float (pp i) else va_rf (rp i)
def gAt (G : GG) (a : Nat) (sh : Sh) (kp : Nat → Int32) (rp : Nat → Option Nat) (pp : Nat → UInt32) (H : Heap) : Prop := match sh with
  | .inl ci => ∃ r : vw_C, gCl[ci]? = some r ∧ t_OB a (G.1.1 ci) r.2.2 (G.1.2 ci) H (gV ci kp rp)
  | .inr tn => H[a]? = some (arrV (G.2.1 tn.1) tn.2 (gE tn.1 kp rp pp))
/-- the world holds: each cell at its address; a place once; the old heap is as it was -/
def Mem (G : GG) (th : Th) (rh : Rh) (ph : Ph) (ka : Ka) (H : Heap) : Prop :=
  (∀ (a pl : Nat) (sh : Sh), th a = some (pl, sh) → G.2.2.heap.size ≤ a ∧ gAt G a sh (ka pl) (rh pl) (ph pl) H ∧ (10000 ≤ pl → pl = 10000 + a)) ∧
  (∀ (a b pl : Nat) (sh sh' : Sh), th a = some (pl, sh) → th b = some (pl, sh') → a = b) ∧ G.2.2.heap.size ≤ H.size ∧ ∀ q : Nat, q < G.2.2.heap.size → H[q]? = G.2.2.heap[q]?
def frG (G : GG) : Addr → Prop := fun q => G.2.2.heap.size ≤ q
def Md (G : GG) (th : Th) (rh : Rh) (ph : Ph) (ka : Ka) (H : Heap) (locs : List Loc) : Prop := Mem G th rh ph ka H ∧ ∀ l ∈ locs, G.2.2.heap.size ≤ l.base
theorem gAt.lt {G : GG} {a : Nat} {sh : Sh} {kp : Nat → Int32} {rp : Nat → Option Nat} {pp : Nat → UInt32} {H : Heap} (h : gAt G a sh kp rp pp H) : a < H.size := by
  cases sh with
  | inl ci =>
    obtain ⟨r, -, cell, h2, -⟩ := h
    exact (Array.getElem?_eq_some_iff.mp h2).1
  | inr tn => exact (Array.getElem?_eq_some_iff.mp h).1
theorem gAt.kept {G : GG} {a : Nat} {sh : Sh} {kp : Nat → Int32} {rp : Nat → Option Nat} {pp : Nat → UInt32} {H H1 : Heap} (h : gAt G a sh kp rp pp H) (hq : H1[a]? = H[a]?) : gAt G a sh kp rp pp H1 := by
  cases sh with
  | inl ci =>
    obtain ⟨r, h1, h2⟩ := h
    exact ⟨r, h1, h2.kept hq⟩
  | inr tn => exact hq.trans h
section GM
variable {G : GG} {th : Th} {rh rh' : Rh} {ph ph' : Ph} {ka ka' : Ka} {H H1 : Heap} {locs locs1 : List Loc}
theorem Mem.lt (hM : Mem G th rh ph ka H) {a pl : Nat} {sh : Sh} (ha : th a = some (pl, sh)) : a < H.size := (hM.1 a pl sh ha).2.1.lt
theorem Mem.old (hM : Mem G th rh ph ka H) {a pl : Nat} {sh : Sh} (ha : th a = some (pl, sh)) : G.2.2.heap.size ≤ a := (hM.1 a pl sh ha).1
theorem Mem.fresh (hM : Mem G th rh ph ka H) : th H.size = none := by
  cases h : th H.size with
  | none => rfl
  | some q =>
    obtain ⟨pl, sh⟩ := q
    exact absurd (hM.lt h) (Nat.lt_irrefl _)
theorem Mem.freshP (hM : Mem G th rh ph ka H) {a : Nat} {sh : Sh} : ¬ th a = some (10000 + H.size, sh) := fun h => by
  have h1 := (hM.1 a _ sh h).2.2 (by omega)
  have h2 := hM.lt h
  omega
/-- one cell is written -/
theorem Mem.write (hM : Mem G th rh ph ka H) {a pl : Nat} {sh : Sh} (ha : th a = some (pl, sh)) (hk : ∀ q, q ≠ pl → ka' q = ka q ∧ rh' q = rh q ∧ ph' q = ph q) (he : gAt G a sh (ka' pl) (rh' pl) (ph' pl) H1) (hz : H1.size = H.size) (ho : ∀ q : Nat, q ≠ a → H1[q]? = H[q]?) : Mem G th rh' ph' ka' H1 := by
  refine ⟨fun b q sh' hb => ⟨(hM.1 b q sh' hb).1, ?_, (hM.1 b q sh' hb).2.2⟩, hM.2.1, by rw [hz]; exact hM.2.2.1, fun q hq => ?_⟩
  · by_cases e : b = a
    · subst e
      cases ha.symm.trans hb
      exact he
    · have hne : q ≠ pl := fun z => e (hM.2.1 b a pl sh' sh (by rw [← z]; exact hb) ha)
      obtain ⟨h1, h2, h3⟩ := hk q hne
      rw [h1, h2, h3]
      exact (hM.1 b q sh' hb).2.1.kept (ho b e)
  · rw [ho q (by have := hM.old ha; omega)]
    exact hM.2.2.2 q hq
/-- one cell more -/
theorem Mem.alloc (hM : Mem G th rh ph ka H) {sh : Sh} (hk : ∀ q, q ≠ 10000 + H.size → ka' q = ka q ∧ rh' q = rh q ∧ ph' q = ph q) (he : gAt G H.size sh (ka' (10000 + H.size)) (rh' (10000 + H.size)) (ph' (10000 + H.size)) H1) (hz : H1.size = H.size + 1) (ho : ∀ q : Nat, q < H.size → H1[q]? = H[q]?) : Mem G (va_up th H.size (some (10000 + H.size, sh))) rh' ph' ka' H1 := by
  have hf := hM.fresh
  refine ⟨fun b q sh' hb => ?_, fun b d q s1 s2 hb hd => ?_, by have := hM.2.2.1; omega, fun q hq => ?_⟩
  · by_cases e : b = H.size
    · subst e
      rw [va_up_self] at hb
      cases hb
      exact ⟨hM.2.2.1, he, fun _ => rfl⟩
    · rw [va_up_ne _ _ e] at hb
      have hne : q ≠ 10000 + H.size := fun z => hM.freshP (by rw [← z]; exact hb)
      obtain ⟨h1, h2, h3⟩ := hk q hne
      rw [h1, h2, h3]
      exact ⟨(hM.1 b q sh' hb).1, (hM.1 b q sh' hb).2.1.kept (ho b (hM.lt hb)), (hM.1 b q sh' hb).2.2⟩
  · by_cases e : b = H.size
    · by_cases e' : d = H.size
      · rw [e, e']
      · rw [e, va_up_self] at hb
        rw [va_up_ne _ _ e'] at hd
        cases hb
        exact absurd hd hM.freshP
    · by_cases e' : d = H.size
      · rw [e', va_up_self] at hd
        rw [va_up_ne _ _ e] at hb
        cases hd
        exact absurd hb hM.freshP
      · rw [va_up_ne _ _ e] at hb
        rw [va_up_ne _ _ e'] at hd
        exact hM.2.1 b d q s1 s2 hb hd
  · rw [ho q (by have := hM.2.2.1; omega)]
    exact hM.2.2.2 q hq
/-- a cell is forgotten -/
theorem Mem.drop (hM : Mem G th rh ph ka H) (a : Nat) : Mem G (va_up th a none) rh ph ka H := by
  refine ⟨fun b q sh hb => ?_, fun b d q s1 s2 hb hd => ?_, hM.2.2⟩
  · by_cases e : b = a
    · rw [e, va_up_self] at hb; cases hb
    · rw [va_up_ne _ _ e] at hb; exact hM.1 b q sh hb
  · by_cases e : b = a
    · rw [e, va_up_self] at hb; cases hb
    · by_cases e' : d = a
      · rw [e', va_up_self] at hd; cases hd
      · rw [va_up_ne _ _ e] at hb
        rw [va_up_ne _ _ e'] at hd
        exact hM.2.1 b d q s1 s2 hb hd
/-- a cell gets another place, one that is free -/
theorem Mem.move (hM : Mem G th rh ph ka H) {a pl pl' : Nat} {sh : Sh} (ha : th a = some (pl, sh)) (hfree : ∀ (b : Nat) (s' : Sh), ¬ th b = some (pl', s')) (hp : pl' < 10000) : Mem G (va_up th a (some (pl', sh))) (up1 rh pl' (rh pl)) (up1 ph pl' (ph pl)) (up1 ka pl' (ka pl)) H := by
  refine ⟨fun b q s' hb => ?_, fun b d q s1 s2 hb hd => ?_, hM.2.2⟩
  · by_cases e : b = a
    · rw [e, va_up_self] at hb
      cases hb
      rw [e, up1_s, up1_s, up1_s]
      exact ⟨hM.old ha, (hM.1 a pl sh ha).2.1, fun z => by omega⟩
    · rw [va_up_ne _ _ e] at hb
      have hne : q ≠ pl' := fun z => hfree b s' (by rw [← z]; exact hb)
      rw [up1_a _ _ hne, up1_a _ _ hne, up1_a _ _ hne]
      exact hM.1 b q s' hb
  · by_cases e : b = a
    · by_cases e' : d = a
      · rw [e, e']
      · rw [e, va_up_self] at hb
        rw [va_up_ne _ _ e'] at hd
        cases hb
        exact absurd hd (hfree d s2)
    · by_cases e' : d = a
      · rw [e', va_up_self] at hd
        rw [va_up_ne _ _ e] at hb
        cases hd
        exact absurd hb (hfree b s1)
      · rw [va_up_ne _ _ e] at hb
        rw [va_up_ne _ _ e'] at hd
        exact hM.2.1 b d q s1 s2 hb hd
theorem Md.lcs (h : ∀ l ∈ locs, G.2.2.heap.size ≤ l.base) {a i : Nat} (ha : G.2.2.heap.size ≤ a) : ∀ l ∈ locs ++ [(⟨a, i⟩ : Loc)], G.2.2.heap.size ≤ l.base := by
  intro l hl
  rcases List.mem_append.mp hl with h1 | h1
  · exact h l h1
  · rw [List.mem_singleton.mp h1]; exact ha
end GM
theorem gV_i {ci k : Nat} {kp : Nat → Int32} {rp : Nat → Option Nat} (h : gR ci k = false) : gV ci kp rp k = .int (kp k) := by simp [gV, h]
theorem gV_r {ci k : Nat} {kp : Nat → Int32} {rp : Nat → Option Nat} (h : gR ci k = true) : gV ci kp rp k = va_rf (rp k) := by simp [gV, h]
theorem gV_ui {ci k : Nat} {kp : Nat → Int32} {rp : Nat → Option Nat} {v : Int32} (h : gR ci k = false) (j : Nat) : updV (gV ci kp rp) k (.int v) j = gV ci (va_up kp k v) rp j := by
  by_cases e : j = k
  · subst e; simp [updV, gV, h, va_up]
  · simp [updV, gV, va_up, e]
theorem gV_ur {ci k : Nat} {kp : Nat → Int32} {rp : Nat → Option Nat} {v : Option Nat} (h : gR ci k = true) (j : Nat) : updV (gV ci kp rp) k (va_rf v) j = gV ci kp (va_up rp k v) j := by
  by_cases e : j = k
  · subst e; simp [updV, gV, h, va_up]
  · simp [updV, gV, va_up, e]
theorem gE_ui {t k : Nat} {kp : Nat → Int32} {rp : Nat → Option Nat} {pp : Nat → UInt32} {v : Int32} (h : t < 5) (j : Nat) : updV (gE t kp rp pp) k (.int v) j = gE t (va_up kp k v) rp pp j := by
  by_cases e : j = k
  · subst e; simp [updV, gE, h, va_up]
  · simp [updV, gE, va_up, e]
theorem gE_uf {k : Nat} {kp : Nat → Int32} {rp : Nat → Option Nat} {pp : Nat → UInt32} {v : UInt32} (j : Nat) : updV (gE 5 kp rp pp) k (.float v) j = gE 5 kp rp (va_up pp k v) j := by
  by_cases e : j = k
  · subst e; simp [updV, gE, va_up]
  · simp [updV, gE, va_up, e]
theorem gE_ur {t k : Nat} {kp : Nat → Int32} {rp : Nat → Option Nat} {pp : Nat → UInt32} {v : Option Nat} (h : 5 < t) (j : Nat) : updV (gE t kp rp pp) k (va_rf v) j = gE t kp (va_up rp k v) pp j := by
  have h1 : ¬ t < 5 := by omega
  have h2 : ¬ t = 5 := by omega
  by_cases e : j = k
  · subst e; simp [updV, gE, h1, h2, va_up]
  · simp [updV, gE, va_up, e]
/-- the class's field words stand in the list -/
theorem gIn {ci : Nat} {r : vw_C} (h : gCl[ci]? = some r) : ∀ w ∈ u_ws r.1 r.2.1 r.2.2, w ∈ lw_all := by
  have sub : ∀ {C : String} {T : u_T} {N n : Nat}, n ≤ N → (∀ w ∈ u_ws C T N, w ∈ lw_all) → ∀ w ∈ u_ws C T n, w ∈ lw_all := by
    intro C T N n hn h w hw
    obtain ⟨k, hk, rfl⟩ := List.mem_map.mp hw
    exact h _ (u_in_lay (Nat.lt_of_lt_of_le (List.mem_range.mp hk) hn))
  match ci, h with
  | 0, h => cases h; exact in_X0
  | 1, h => cases h; exact in_X1
  | 2, h => cases h; exact in_X2
  | 3, h => cases h; exact in_X3
  | 4, h => cases h; exact in_X4
  | 5, h => cases h; exact sub (by decide) in_X5
  | 6, h => cases h; exact sub (by decide) in_X6
  | 7, h => cases h; exact sub (by decide) in_X7
  | 8, h => cases h; exact sub (by decide) in_X8
  | 9, h => cases h; exact sub (by decide) in_X9
  | 10, h => cases h; exact in_X10
  | 11, h => cases h; exact in_X11
  | 12, h => cases h; exact in_X12
  | 13, h => cases h; exact in_X13
  | 14, h => cases h; exact in_X14
  | 15, h => cases h; exact in_X15
  | 16, h => cases h; exact in_X16
  | k + 17, h => simp at h
