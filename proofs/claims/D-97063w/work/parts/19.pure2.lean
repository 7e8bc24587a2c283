/-! pure: codes and stacks -/
set_option maxRecDepth 100000
theorem codeT_drop {t : Row} {x i : Nat} (h : i < lenT t x) : (codeT t x).drop i = t (135 + 96 * x + i) :: (codeT t x).drop (i + 1) := by
  rw [List.drop_eq_getElem_cons (by simpa [codeT] using h)]
  simp [codeT]
theorem codeT_end {t : Row} {x i : Nat} (h : lenT t x ≤ i) : (codeT t x).drop i = [] := List.drop_eq_nil_of_le (by simpa [codeT] using h)
/-- an array holds a stack: its top is the list's head -/
def StkR (a : Row) : List Int32 → Prop
  | [] => True
  | x :: r => a r.length = x ∧ StkR a r
theorem StkR_up {a b : Row} : ∀ {st : List Int32}, (∀ j, j < st.length → b j = a j) → StkR a st → StkR b st
  | [], _, _ => trivial
  | x :: r, h, hs => ⟨(h r.length (by simp)).trans hs.1, StkR_up (fun j hj => h j (Nat.lt_trans hj (by simp))) hs.2⟩
theorem okC_pos {m : Nat} {sg : Int32} {r : List Int32} {d : Nat} (h : okC m (sg :: r) d) (h0 : ¬ sg < 0) : sg < nI (10000 + m) ∧ okC m r (d + 1) := by
  rcases h with ⟨_, h2, h3⟩ | ⟨h1, _⟩ | ⟨_, h1, _⟩
  · exact ⟨h2, h3⟩
  · exact absurd (by rw [h1]; decide) h0
  · exact absurd h1 h0
theorem okC_not {m : Nat} {sg : Int32} {r : List Int32} {d : Nat} (h : okC m (sg :: r) d) (h0 : sg = -10) : 1 ≤ d ∧ okC m r d := by
  rcases h with ⟨h1, _⟩ | ⟨_, h1, h2⟩ | ⟨h1, _⟩
  · rw [h0] at h1; exact absurd h1 (by decide)
  · exact ⟨h1, h2⟩
  · rw [h0] at h1; exact absurd h1 (by decide)
theorem okC_two {m : Nat} {sg : Int32} {r : List Int32} {d : Nat} (h : okC m (sg :: r) d) (h0 : sg < 0) (h1 : ¬ sg = -10) : (-9 ≤ sg ∧ sg < 0) ∧ 2 ≤ d ∧ okC m r (d - 1) := by
  rcases h with ⟨h2, _⟩ | ⟨h2, _⟩ | ⟨h2, h3, h4, h5⟩
  · exact absurd h0 (i_nlt.mpr h2)
  · exact absurd h2 h1
  · exact ⟨⟨h2, h3⟩, h4, h5⟩
theorem name_ix {m : Nat} {sg : Int32} (hm : m ≤ 4) (h0 : ¬ sg < 0) (h1 : ¬ sg < 10000) (h2 : sg < nI (10000 + m)) : ∃ k : Nat, k < m ∧ sg - 10000 = nI k := by
  obtain ⟨n, hn, rfl⟩ := nI_of h0
  have h3 : n < 10000 + m := (nI_ltI hn (by omega)).mp h2
  have h4 : 10000 ≤ n := Nat.not_lt.mp fun z => h1 ((nI_ltI (b := 10000) hn (by omega)).mpr z)
  exact ⟨n - 10000, by omega, pk_sub h4⟩
theorem stepC_not {f : Nat → Int32} {x : Int32} {r : List Int32} {sg : Int32} (h : sg = -10) : stepC f (x :: r) sg = (if x = 0 then 1 else 0) :: r := by
  subst h; rfl
theorem stepC_two {f : Nat → Int32} {x y : Int32} {r : List Int32} {sg : Int32} (h0 : sg < 0) (h : ¬ sg = -10) : stepC f (y :: x :: r) sg = twoT sg x y :: r := by
  unfold stepC
  rw [if_neg (i_nle.mpr h0), if_neg h]
theorem stepC_lit {f : Nat → Int32} {st : List Int32} {sg : Int32} (h0 : ¬ sg < 0) (h : sg < 10000) : stepC f st sg = sg :: st := by
  unfold stepC
  rw [if_pos (i_nlt.mp h0), if_pos h]
theorem stepC_name {f : Nat → Int32} {st : List Int32} {sg : Int32} {k : Nat} (h0 : ¬ sg < 0) (h : ¬ sg < 10000) (hk : sg - 10000 = nI k) (hl : k < 2 ^ 31) : stepC f st sg = f k :: st := by
  unfold stepC
  rw [if_pos (i_nlt.mp h0), if_neg h, hk, nI_clamp hl]
theorem opI_pos {o : Option Nat} (h : 0 ≤ opI o) : ∃ x, o = some x := by
  cases o with
  | none => exact absurd h (by decide)
  | some x => exact ⟨x, rfl⟩
theorem cntT_some {t : Row} {key : Int32} : ∀ {n x : Nat}, cntT t key n = some x → x < n ∧ t (107 + 2 * x) / 1000 = key
  | 0, _, h => by cases h
  | n + 1, x, h => by
    unfold cntT at h
    split at h
    · cases h; exact ⟨Nat.lt_succ_self _, by assumption⟩
    · obtain ⟨h1, h2⟩ := cntT_some h
      exact ⟨Nat.lt_succ_of_lt h1, h2⟩
theorem opI_neg {t : Row} {o : Option Nat} (h : ¬ 0 ≤ opI o) (hb : ∀ x, o = some x → x < 2 ^ 31) : o = none := by
  cases o with
  | none => rfl
  | some x => exact absurd (nI_pos' (hb x rfl)) h
/-- of a text's number: its key, its length -/
theorem txt_num {v : Int32} {key len : Nat} (hk : key < 3) (hl : len ≤ 96) (h : v = nI (1000 * key + len)) : v / 1000 = nI key ∧ v - v / 1000 * 1000 = nI len := by
  subst h
  constructor
  · have := pk_div (a := 1000 * key + len) (d := 1000) (by omega) (by omega) (by omega)
    rw [show (1000 * key + len) / 1000 = key by omega] at this
    exact this
  · have := pk_rem (a := 1000 * key + len) (d := 1000) (by omega) (by omega) (by omega)
    rw [show (1000 * key + len) % 1000 = len by omega] at this
    exact this
theorem stepC_congr {m : Nat} {f g : Nat → Int32} (h : ∀ i, i < m → f i = g i) {sg : Int32} {r : List Int32} {d : Nat} (hm : m ≤ 4) (hok : okC m (sg :: r) d) (st : List Int32) : stepC f st sg = stepC g st sg := by
  unfold stepC
  by_cases h0 : 0 ≤ sg
  · rw [if_pos h0, if_pos h0]
    by_cases h1 : sg < 10000
    · rw [if_pos h1, if_pos h1]
    · obtain ⟨k, hk, e⟩ := name_ix hm (i_nlt.mpr h0) h1 (okC_pos hok (i_nlt.mpr h0)).1
      rw [if_neg h1, if_neg h1, e, nI_clamp (by omega), h k hk]
  · rw [if_neg h0, if_neg h0]
theorem evC_congr {m : Nat} {f g : Nat → Int32} (h : ∀ i, i < m → f i = g i) (hm : m ≤ 4) : ∀ (code : List Int32) (d : Nat) (st : List Int32), okC m code d → evC f code st = evC g code st
  | [], _, _, _ => rfl
  | sg :: r, d, st, hok => by
    show evC f r (stepC f st sg) = evC g r (stepC g st sg)
    rw [stepC_congr h hm hok st]
    rcases hok with ⟨_, _, h3⟩ | ⟨_, _, h3⟩ | ⟨_, _, _, h3⟩
    · exact evC_congr h hm r _ _ h3
    · exact evC_congr h hm r _ _ h3
    · exact evC_congr h hm r _ _ h3
theorem worksT_congr {t : Row} {x m : Nat} {f g : Nat → Int32} (hm : m ≤ 4) (hok : okC m (codeT t x) 0) (h : ∀ i, i < m → f i = g i) : worksT t x f = worksT t x g := by
  unfold worksT
  rw [evC_congr h hm _ 0 [] hok]
/-- a text of a right row that counts for a key -/
theorem Rok.txt {t : Row} (hR : Rok t) {key : Nat} {x : Nat} (h : cntT t (nI key) (nX t) = some x) (hk : key < 3) : x < 14 ∧ lenT t x ≤ 96 ∧ t (107 + 2 * x) - t (107 + 2 * x) / 1000 * 1000 = nI (lenT t x) ∧ okC (if key = 0 then 3 else 2) (codeT t x) 0 := by
  obtain ⟨h1, h2⟩ := cntT_some h
  obtain ⟨k2, hk2, hl, ht, ho⟩ := hR.2.2.2.2 x h1
  obtain ⟨e1, e2⟩ := txt_num hk2 hl ht
  have e3 : k2 = key := (nI_eq (by omega) (by omega)).mp (e1.symm.trans h2)
  subst e3
  exact ⟨Nat.lt_of_lt_of_le h1 hR.2.2.1.2, hl, e2, ho⟩
theorem cntT_lt {t : Row} (hR : Rok t) {key : Int32} : ∀ x, cntT t key (nX t) = some x → x < 2 ^ 31 := fun x h => by
  have := (cntT_some h).1
  have := hR.2.2.1.2
  omega
theorem hl_sum {t : Row} {p : Nat} : nI (pA t p) + nI (pB t p) - nI (higherT t p) = nI (lowerT t p) := by
  unfold higherT lowerT
  split
  · rw [nI_add, pk_sub (by omega)]; congr 1; omega
  · rw [nI_add, pk_sub (by omega)]; congr 1; omega
theorem higher_lt {t : Row} {p n : Nat} (h1 : pA t p < n) (h2 : pB t p < n) : higherT t p < n ∧ lowerT t p < n := by
  unfold higherT lowerT
  split <;> constructor <;> assumption
/-- places of a row that an hour may change: z, the hour, what is spilt, wine -/
def Wet (i : Nat) : Prop := i = 0 ∨ i = 3 ∨ i = 5 ∨ (7 ≤ i ∧ i < 55 ∧ 3 ≤ (i - 7) % 6)
/-- all else is as it was -/
def Seq (t u : Row) : Prop := ∀ i, ¬ Wet i → u i = t i
theorem Seq.refl {t : Row} : Seq t t := fun _ _ => rfl
theorem Seq.trans {a b c : Row} (h1 : Seq a b) (h2 : Seq b c) : Seq a c := fun i hi => (h2 i hi).trans (h1 i hi)
theorem Seq.c1 {t u : Row} (h : Seq t u) : u 1 = t 1 := h 1 (by unfold Wet; omega)
theorem Seq.c2 {t u : Row} (h : Seq t u) : u 2 = t 2 := h 2 (by unfold Wet; omega)
theorem Seq.c4 {t u : Row} (h : Seq t u) : u 4 = t 4 := h 4 (by unfold Wet; omega)
theorem Seq.c6 {t u : Row} (h : Seq t u) : u 6 = t 6 := h 6 (by unfold Wet; omega)
theorem Seq.nC {t u : Row} (h : Seq t u) : nC u = nC t := by unfold Jvm.Pilot.CLevelCellarsLaw_law_r8225_edb9db.nC; rw [h.c1]
theorem Seq.nP {t u : Row} (h : Seq t u) : nP u = nP t := by unfold Jvm.Pilot.CLevelCellarsLaw_law_r8225_edb9db.nP; rw [h.c2]
theorem Seq.nX {t u : Row} (h : Seq t u) : nX u = nX t := by unfold Jvm.Pilot.CLevelCellarsLaw_law_r8225_edb9db.nX; rw [h.c6]
theorem Seq.pi {t u : Row} (h : Seq t u) (p w : Nat) : u (55 + 4 * p + w) = t (55 + 4 * p + w) := h _ (by unfold Wet; omega)
theorem Seq.tx {t u : Row} (h : Seq t u) {i : Nat} (hi : 107 ≤ i) : u i = t i := h _ (by unfold Wet; omega)
theorem Seq.ce {t u : Row} (h : Seq t u) (c : Nat) {w : Nat} (hw : w < 3) : u (7 + 6 * c + w) = t (7 + 6 * c + w) := h _ (by unfold Wet; omega)
theorem Seq.pA {t u : Row} (h : Seq t u) (p : Nat) : pA u p = pA t p := by unfold Jvm.Pilot.CLevelCellarsLaw_law_r8225_edb9db.pA; rw [h.pi]
theorem Seq.pB {t u : Row} (h : Seq t u) (p : Nat) : pB u p = pB t p := by unfold Jvm.Pilot.CLevelCellarsLaw_law_r8225_edb9db.pB; rw [h.pi]
theorem Seq.lenT {t u : Row} (h : Seq t u) (x : Nat) : lenT u x = lenT t x := by unfold Jvm.Pilot.CLevelCellarsLaw_law_r8225_edb9db.lenT; rw [h.tx (by omega)]
theorem Seq.codeT {t u : Row} (h : Seq t u) (x : Nat) : codeT u x = codeT t x := by
  unfold Jvm.Pilot.CLevelCellarsLaw_law_r8225_edb9db.codeT
  rw [h.lenT]
  refine List.map_congr_left fun k _ => h.tx (by omega)
theorem Seq.rok {t u : Row} (h : Seq t u) (hR : Rok t) : Rok u := by
  obtain ⟨⟨a1, a2⟩, ⟨b1, b2⟩, ⟨c1, c2⟩, d, e⟩ := hR
  refine ⟨⟨by rw [h.c1, h.nC]; exact a1, by rw [h.nC]; exact a2⟩, ⟨by rw [h.c2, h.nP]; exact b1, by rw [h.nP]; exact b2⟩, ⟨by rw [h.c6, h.nX]; exact c1, by rw [h.nX]; exact c2⟩, fun p hp => ?_, fun x hx => ?_⟩
  · rw [h.nP] at hp
    rw [h.pi, h.pi, h.pA, h.pB, h.nC]
    exact d p hp
  · rw [h.nX] at hx
    obtain ⟨k, q1, q2, q3, q4⟩ := e x hx
    exact ⟨k, q1, by rw [h.lenT]; exact q2, by rw [h.lenT, h.tx (by omega)]; exact q3, by rw [h.codeT]; exact q4⟩
theorem drT_seq {t : Row} {c : Nat} (hc : c < 8) (n : Int32) : Seq t (drT t c n) := by
  intro i hi
  unfold Wet at hi
  unfold drT
  rw [if_neg (by omega), if_neg (by omega), if_neg (by omega)]
theorem inT_seq {t : Row} {c : Nat} (hc : c < 8) (g : Nat → Int32) : Seq t (inT t c g) := by
  intro i hi
  unfold Wet at hi
  unfold inT
  rw [if_neg (by omega), if_neg (by omega), if_neg (by omega)]
theorem rw1_seq {t : Row} {k : Nat} (hk : Wet k) (v : Int32) : Seq t (rw1 t k v) := fun i hi => va_up_ne _ _ (fun z => hi (z ▸ hk))
theorem spT_seq {t : Row} {c : Nat} (hc : c < 8) (n : Int32) : Seq t (spT t c n) := (drT_seq hc n).trans (rw1_seq (by unfold Wet; omega) _)
theorem flT_seq {t : Row} {p : Nat} (hR : Rok t) (hp : p < nP t) : Seq t (flT t p) := by
  obtain ⟨_, h2, _, h4⟩ := hR.2.2.2.1 p hp
  have h8 := hR.1.2
  obtain ⟨q1, q2⟩ := higher_lt h2 h4
  unfold flT
  split
  · exact (drT_seq (by omega) _).trans (inT_seq (by omega) _)
  · exact Seq.refl
theorem st3f_seq {t : Row} {c : Nat} (hc : c < 8) : Seq t (st3f c t) := by
  unfold st3f
  split
  · exact spT_seq hc _
  · exact Seq.refl
theorem itn_seq {f : Nat → Row → Row} {t : Row} : ∀ {n : Nat}, (∀ k u, k < n → Seq t u → Seq u (f k u)) → Seq t (itn f n t)
  | 0, _ => Seq.refl
  | n + 1, h => by
    have h1 := itn_seq (n := n) (fun k u hk hu => h k u (Nat.lt_succ_of_lt hk) hu)
    exact h1.trans (h n _ (Nat.lt_succ_self n) h1)
theorem st1_seq {t : Row} (hR : Rok t) : Seq t (st1 t) := itn_seq (fun k u hk hu => flT_seq (hu.rok hR) (by rw [hu.nP]; exact hk))
theorem st2_seq {t : Row} (hR : Rok t) : Seq t (st2 t) := itn_seq (fun k u hk hu => spT_seq (by have := hR.1.2; omega) _)
theorem st3_seq {t : Row} (hR : Rok t) : Seq t (st3 t) := itn_seq (fun k u hk hu => st3f_seq (by have := hR.1.2; omega))
theorem z8_nat (z : Int32) : ∃ k : Nat, k < 2 ^ 24 ∧ z8 z = nI k := by
  refine ⟨(z8 z).toBitVec.toNat, ?_, ?_⟩
  · unfold z8
    rw [pk_ushr z 8 8 (by decide)]
    have := z.toBitVec.isLt
    omega
  · apply Int32.toBitVec_inj.mp
    apply BitVec.eq_of_toNat_eq
    rw [pk_tn (BitVec.isLt _)]
theorem rem_z8 (z : Int32) {x : Int32} {n : Nat} (hx : x = nI n) (h0 : 0 < n) (hn : n < 2 ^ 31) : ∃ k : Nat, k < n ∧ rem (z8 z) x = nI k := by
  obtain ⟨k, hk, e⟩ := z8_nat z
  refine ⟨k % n, Nat.mod_lt _ h0, ?_⟩
  unfold rem
  rw [e, hx]
  exact pk_rem (by omega) h0 hn
theorem st4_seq {t : Row} (hR : Rok t) : Seq t (st4 t) := by
  unfold st4
  split
  · rename_i h
    have h1 : 0 < nC t := by
      have := h.2
      rw [hR.1.1] at this
      exact Nat.pos_of_ne_zero fun z => by rw [z] at this; exact absurd this (by decide)
    obtain ⟨k, hk, e⟩ := rem_z8 (drawT (drawT (t 0))) hR.1.1 h1 (by have := hR.1.2; omega)
    rw [e, nI_clamp (by have := hR.1.2; omega)]
    exact (rw1_seq (by unfold Wet; omega) _).trans (drT_seq (by have := hR.1.2; omega) _)
  · exact rw1_seq (by unfold Wet; omega) _
theorem hourT_seq {t : Row} (hR : Rok t) : Seq t (hourT t) := by
  have h1 := st1_seq hR
  have h2 := h1.trans (st2_seq (h1.rok hR))
  have h3 := h2.trans (st3_seq (h2.rok hR))
  have h4 := h3.trans (st4_seq (h3.rok hR))
  exact h4.trans (rw1_seq (by unfold Wet; omega) _)
theorem hoursT_seq {t : Row} (hR : Rok t) : ∀ n, Seq t (hoursT n t)
  | 0 => Seq.refl
  | n + 1 => (hoursT_seq hR n).trans (hourT_seq ((hoursT_seq hR n).rok hR))
/-- a row as far as 107, 1479 -/
def bkT (b t : Row) : Row := fun i => if i < 107 then b i else t i
def cpT (f t : Row) : Row := fun i => if i < 1479 then f i else t i
theorem joinT_0 {t : Row} {a b : Nat} : ¬ joinT t a b 0 := fun ⟨_, h, _⟩ => absurd h (Nat.not_lt_zero _)
theorem joinT_s {t : Row} {a b n : Nat} : joinT t a b (n + 1) ↔ joinT t a b n ∨ ((t (55 + 4 * n + 0) = nI a ∧ t (55 + 4 * n + 1) = nI b) ∨ (t (55 + 4 * n + 0) = nI b ∧ t (55 + 4 * n + 1) = nI a)) := by
  constructor
  · rintro ⟨p, h1, h2⟩
    rcases Nat.lt_or_ge p n with h | h
    · exact Or.inl ⟨p, h, h2⟩
    · have : p = n := by omega
      subst this
      exact Or.inr h2
  · rintro (⟨p, h1, h2⟩ | h)
    · exact ⟨p, by omega, h2⟩
    · exact ⟨n, by omega, h⟩
/-- one number of a sheet against a level, then an hour -/
def ofS (cells : Row) (s c : Nat) (k : Nat) (q : Row × Int64) : Row × Int64 :=
  (hourT q.1, q.2 + (if cells (24 * s + k) = -1000000005 then 0 else if (cells (24 * s + k)).toInt64 - (levelT q.1 c).toInt64 < 0 then -((cells (24 * s + k)).toInt64 - (levelT q.1 c).toInt64) else (cells (24 * s + k)).toInt64 - (levelT q.1 c).toInt64))
def offT (cells : Row) (s c n : Nat) (t : Row) : Row × Int64 := itn (ofS cells s c) n (t, 0)
theorem offT_seq {cells t : Row} (hR : Rok t) (s c : Nat) : ∀ n, Seq t (offT cells s c n t).1
  | 0 => Seq.refl
  | n + 1 => (offT_seq hR s c n).trans (hourT_seq ((offT_seq hR s c n).rok hR))
theorem Seq.bk {t u b : Row} (h : Seq t u) : bkT b u = bkT b t := by
  funext i
  unfold bkT
  split
  · rfl
  · exact h.tx (by omega)
