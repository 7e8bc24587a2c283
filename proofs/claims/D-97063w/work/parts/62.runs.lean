/-! WHAT RUNS through a pipe, in plain numbers -/
set_option maxRecDepth 100000
theorem div2 {n : Nat} (h : n < 2 ^ 31) : nI n / 2 = nI (n / 2) := by
  have := pk_div (a := n) (d := 2) h (by decide) (by decide)
  exact this
theorem highT_nat (t : Row) (k : Nat) : ∃ h : Nat, h ≤ 1000 ∧ highT t k = nI h := by
  obtain ⟨n, -, hn, e⟩ := (btw_iff (v := plainT t k) (a := 0) (b := 999) (by decide) (by decide)).mp (plainT_b t k)
  unfold highT
  rw [e]
  split
  · exact ⟨n / 2, by omega, div2 (by omega)⟩
  · split
    · split
      · exact ⟨0, by omega, rfl⟩
      · rename_i c
        have c' : ¬ n < 4 := fun z => c ((nI_ltI (b := 4) (by omega) (by decide)).mpr z)
        refine ⟨n / 2 - 2, by omega, ?_⟩
        rw [div2 (by omega)]
        have := pk_sub (a := n / 2) (b := 2) (by omega)
        exact this
    · split
      · split
        · exact ⟨n + 1, by omega, nI_1 n⟩
        · exact ⟨n, by omega, rfl⟩
      · split
        · exact ⟨0, by omega, rfl⟩
        · exact ⟨n, by omega, rfl⟩
section
variable {t : Row} {u s k p : Nat}
theorem Bok.level (h : Bok u s t) (hk : k < nC t) : ∃ L : Nat, L ≤ 1099 ∧ levelT t k = nI L := by
  obtain ⟨⟨a, ha, ea⟩, -⟩ := h.1 k hk
  obtain ⟨x, hx, ex⟩ := highT_nat t k
  exact ⟨a + x, by omega, by unfold levelT; rw [ea, ex, nA]⟩
theorem wi_min {v F : Nat} (hv : v < 2 ^ 31) (hF : F < 2 ^ 31) : wi (nI v) 0 (nI F) = nI (min v F) := by
  unfold wi
  rw [if_neg (nI_pos hv)]
  by_cases c : F < v
  · rw [if_pos ((nI_ltI hF hv).mpr c), Nat.min_eq_right (by omega)]
  · rw [if_neg (fun z => c ((nI_ltI hF hv).mp z)), Nat.min_eq_left (by omega)]
theorem mn_min {v F : Nat} (hv : v < 2 ^ 31) (hF : F < 2 ^ 31) : (if nI v < nI F then nI v else nI F) = nI (min v F) := by
  by_cases c : v < F
  · rw [if_pos ((nI_ltI hv hF).mpr c), Nat.min_eq_left (by omega)]
  · rw [if_neg (fun z => c ((nI_ltI hv hF).mp z)), Nat.min_eq_right (by omega)]
theorem takesT_nat (t : Row) (k : Nat) {n : Nat} (hn : n < 2 ^ 31) : ∃ r : Nat, r ≤ n ∧ takesT t k (nI n) = nI r := by
  unfold takesT
  split
  · exact ⟨n / 2, by omega, div2 hn⟩
  · split
    · exact ⟨0, by omega, rfl⟩
    · exact ⟨n, by omega, rfl⟩
/-- what would run, by the levels' difference -/
theorem Bok.wd (h : Bok u s t) (hp : p < nP t) {D : Nat} (hD : D ≤ 1099) : ∃ v : Nat, v ≤ 4950 ∧ t (55 + 4 * p + 2) * nI D / 2 = nI v := by
  obtain ⟨⟨w, h1, h2, e⟩, -⟩ := h.2.1 p hp
  have hb : w * D ≤ 9 * 1099 := Nat.mul_le_mul h2 hD
  exact ⟨w * D / 2, by omega, by rw [e, pk_mul, div2 (by omega)]⟩
theorem Bok.runs (h : Bok u s t) (hO : OvN u s) (hR : Rok t) (hp : p < nP t) : ∃ r : Nat, runsT t p = nI r ∧ r ≤ fN t (higherT t p) ∧ r ≤ 4950 ∧ higherT t p < nC t ∧ lowerT t p < nC t := by
  obtain ⟨-, hA, -, hB⟩ := hR.2.2.2.1 p hp
  obtain ⟨hh, hl⟩ := higher_lt hA hB
  obtain ⟨La, ha, ea⟩ := h.level hA
  obtain ⟨Lb, hb, eb⟩ := h.level hB
  have hdiff : ∃ D : Nat, D ≤ 1099 ∧ levelT t (higherT t p) - levelT t (lowerT t p) = nI D := by
    unfold higherT lowerT
    by_cases c : levelT t (pB t p) < levelT t (pA t p)
    · rw [if_pos c, if_pos c, ea, eb]
      rw [ea, eb] at c
      have := (nI_ltI (by omega) (by omega)).mp c
      exact ⟨La - Lb, by omega, pk_sub (by omega)⟩
    · rw [if_neg c, if_neg c, ea, eb]
      rw [ea, eb] at c
      have : ¬ Lb < La := fun z => c ((nI_ltI (by omega) (by omega)).mpr z)
      exact ⟨Lb - La, by omega, pk_sub (by omega)⟩
  obtain ⟨D, hD, eD⟩ := hdiff
  obtain ⟨v, hv, ev⟩ := h.wd hp hD
  have hf := h.fu hh
  have ho := hO.1
  unfold runsT
  by_cases c : t (55 + 4 * p + 3) = 1
  · rw [if_pos c]; exact ⟨0, rfl, by omega, by omega, hh, hl⟩
  · rw [if_neg c, eD, ev, h.full hh, wi_min (by omega) (by omega)]
    obtain ⟨r, hr, er⟩ := takesT_nat t (lowerT t p) (n := min v (fN t (higherT t p))) (by omega)
    exact ⟨r, er, by omega, by omega, hh, hl⟩
/-- the component's way to it -/
theorem Bok.flow (h : Bok u s t) (hO : OvN u s) (hR : Rok t) (hp : p < nP t) {off : Int32} (ho : off = levelT t (pA t p) - levelT t (pB t p)) :
    ((0 < off) ↔ levelT t (pB t p) < levelT t (pA t p)) ∧ (t (55 + 4 * p + 3) = 0 → takesT t (lowerT t p) (if t (55 + 4 * p + 2) * (if 0 ≤ off then off else 0 - off) / 2 < fullT t (higherT t p) then t (55 + 4 * p + 2) * (if 0 ≤ off then off else 0 - off) / 2 else fullT t (higherT t p)) = runsT t p) ∧ (t (55 + 4 * p + 3) ≠ 0 → runsT t p = 0) := by
  obtain ⟨-, hA, -, hB⟩ := hR.2.2.2.1 p hp
  obtain ⟨hh, hl⟩ := higher_lt hA hB
  obtain ⟨La, ha, ea⟩ := h.level hA
  obtain ⟨Lb, hb, eb⟩ := h.level hB
  have hf := h.fu hh
  have h30 := hO.1
  have eo : off.toInt = (La : Int) - Lb := by rw [ho, ea, eb]; exact pk_sub_toInt (by omega) (by omega)
  have c0 : ((0 : Int32) < off) ↔ Lb < La := by rw [i32_lt, eo]; show (0 : Int) < _ ↔ _; omega
  have c1 : (levelT t (pB t p) < levelT t (pA t p)) ↔ Lb < La := by rw [ea, eb]; exact nI_ltI (by omega) (by omega)
  have cp := (h.2.1 p hp).2
  refine ⟨c0.trans c1.symm, fun hc => ?_, fun hc => ?_⟩
  · have habs : ∃ D : Nat, D ≤ 1099 ∧ (if 0 ≤ off then off else 0 - off) = nI D ∧ levelT t (higherT t p) - levelT t (lowerT t p) = nI D := by
      unfold higherT lowerT
      by_cases c : Lb < La
      · rw [if_pos (c1.mpr c), if_pos (c1.mpr c), ea, eb, pk_sub (by omega)]
        refine ⟨La - Lb, by omega, ?_, rfl⟩
        rw [if_pos (by rw [i32_le, eo]; show (0 : Int) ≤ _; omega)]
        exact nI_t (by rw [eo]; omega) (by omega)
      · rw [if_neg (fun z => c (c1.mp z)), if_neg (fun z => c (c1.mp z)), ea, eb, pk_sub (by omega)]
        refine ⟨Lb - La, by omega, ?_, rfl⟩
        by_cases e : La = Lb
        · rw [if_pos (by rw [i32_le, eo]; show (0 : Int) ≤ _; omega)]
          exact nI_t (by rw [eo]; omega) (by omega)
        · rw [if_neg (by rw [i32_le, eo]; show ¬ (0 : Int) ≤ _; omega)]
          exact nI_t (by rw [sub2_toInt (a := 0) (b := (La : Int) - Lb) rfl eo (by omega) (by omega)]; omega) (by omega)
    obtain ⟨D, hD, eD1, eD2⟩ := habs
    obtain ⟨v, hv, ev⟩ := h.wd hp hD
    unfold runsT
    rw [if_neg (show ¬ t (55 + 4 * p + 3) = 1 by rw [hc]; decide), eD1, eD2, ev, h.full hh, wi_min (by omega) (by omega), mn_min (by omega) (by omega)]
  · unfold runsT
    rw [if_pos (cp.resolve_left hc)]
/-- an hour's first step: what runs -/
theorem Bok.fl (h : Bok u s t) (hO : OvN u s) (hR : Rok t) (hp : p < nP t) : Bok u s (flT t p) := by
  obtain ⟨r, er, h1, h2, hh, hl⟩ := h.runs hO hR hp
  unfold flT
  by_cases c : 0 < runsT t p
  · rw [if_pos c, er]
    have hb := h.dr hO hR hh h1
    obtain ⟨d1, d2⟩ := h.dr1 hO hh h1
    have hs : Seq t (drT t (higherT t p) (nI r)) := drT_seq (by have := hR.1.2; omega) _
    have hs2 : Seq (drT t (higherT t p) (nI r)) (inT (drT t (higherT t p) (nI r)) (lowerT t p) (goT t (higherT t p) (nI r))) := inT_seq (by have := hR.1.2; omega) _
    have hgo := h.goN hO hh h1
    have hf := h.fu hh
    have h30 := hO.1
    have hne : lowerT t p ≠ higherT t p := by
      intro e
      have hz : runsT t p = 0 := by
        unfold runsT
        by_cases q : t (55 + 4 * p + 3) = 1
        · rw [if_pos q]
        · rw [if_neg q, e, Int32.sub_self, Int32.mul_zero]
          have : wi ((0 : Int32) / 2) 0 (fullT t (higherT t p)) = nI 0 := by
            rw [h.full hh]
            exact wi_min (v := 0) (by decide) (by omega)
          rw [this]
          obtain ⟨x, hx, ex⟩ := takesT_nat t (higherT t p) (n := 0) (by decide)
          rw [ex, show x = 0 by omega]; rfl
      rw [hz] at c
      exact absurd c (by decide)
    obtain ⟨x, hx⟩ : ∃ x, x = drT t (higherT t p) (nI r) := ⟨_, rfl⟩
    have hnx : nC x = nC t := by rw [hx]; exact hs.nC
    have hl' : ∀ i, i < 3 → wv (inT x (lowerT t p) (goT t (higherT t p) (nI r))) (lowerT t p) i = wv t (lowerT t p) i + gN t (higherT t p) r i ∧ inT x (lowerT t p) (goT t (higherT t p) (nI r)) (7 + 6 * lowerT t p + (3 + i)) = nI (wv t (lowerT t p) i + gN t (higherT t p) r i) := by
      intro i hi
      have e : inT x (lowerT t p) (goT t (higherT t p) (nI r)) (7 + 6 * lowerT t p + (3 + i)) = nI (wv t (lowerT t p) i + gN t (higherT t p) r i) := by
        rw [inT_at hi, hgo i hi, hx, drT_ne hi hne, (h.1 _ hl).2.2 i hi, nA]
      refine ⟨?_, e⟩
      unfold wv
      rw [e]
      refine cl_nI ?_
      have g1 := gN_le h1 hi
      have g2 := h.fu hl
      have g3 : wv t (higherT t p) i ≤ fN t (higherT t p) := by
        unfold fN
        rcases (show i = 0 ∨ i = 1 ∨ i = 2 by omega) with rfl | rfl | rfl <;> omega
      have g4 : wv t (lowerT t p) i ≤ fN t (lowerT t p) := by
        unfold fN
        rcases (show i = 0 ∨ i = 1 ∨ i = 2 by omega) with rfl | rfl | rfl <;> omega
      show wv t (lowerT t p) i + _ < _
      omega
    have hr' : ∀ k i, i < 3 → k ≠ lowerT t p → wv (inT x (lowerT t p) (goT t (higherT t p) (nI r))) k i = wv x k i := fun k i hi hk => wv_congr (inT_ne hi hk)
    rw [← hx]
    rw [← hx] at hb hs2 d1 d2
    refine ⟨fun k hk => ?_, fun q hq => ?_, ?_, ?_⟩
    · rw [hs2.nC] at hk
      rw [hs2.ce k (by decide), hs2.ce k (by decide)]
      refine ⟨(hb.1 k hk).1, (hb.1 k hk).2.1, fun i hi => ?_⟩
      by_cases e : k = lowerT t p
      · subst e; rw [(hl' i hi).1, (hl' i hi).2]
      · rw [inT_ne hi e, hr' k i hi e]; exact (hb.1 k hk).2.2 i hi
    · rw [hs2.nP] at hq
      rw [hs2.pi, hs2.pi]
      exact hb.2.1 q hq
    · refine Nat.le_trans (Nat.le_of_eq ?_) h.2.2.1
      unfold tot12
      rw [hs2.nC, hnx]
      have q1 := sumN_upd (f := fun k => wv t k 1 + wv t k 2) (g := fun k => wv x k 1 + wv x k 2) (c := higherT t p) (n := nC t) hh (fun k hk e => by show _ + _ = _ + _; rw [d2 k 1 (by decide) e, d2 k 2 (by decide) e])
      have q2 := sumN_upd (f := fun k => wv x k 1 + wv x k 2) (g := fun k => wv (inT x (lowerT t p) (goT t (higherT t p) (nI r))) k 1 + wv (inT x (lowerT t p) (goT t (higherT t p) (nI r))) k 2) (c := lowerT t p) (n := nC t) hl (fun k hk e => by show _ + _ = _ + _; rw [hr' k 1 (by decide) e, hr' k 2 (by decide) e])
      simp only [(d1 1 (by decide)).1, (d1 2 (by decide)).1] at q1
      simp only [(hl' 1 (by decide)).1, (hl' 2 (by decide)).1, d2 _ 1 (by decide) hne, d2 _ 2 (by decide) hne] at q2
      have g1 := gN_le (t := t) (k := higherT t p) h1 (i := 1) (by decide)
      have g2 := gN_le (t := t) (k := higherT t p) h1 (i := 2) (by decide)
      omega
    · refine Nat.le_trans (Nat.le_of_eq ?_) h.2.2.2
      unfold tot0
      rw [hs2.nC, hnx]
      have q1 := sumN_upd (f := fun k => wv t k 0) (g := fun k => wv x k 0) (c := higherT t p) (n := nC t) hh (fun k hk e => d2 k 0 (by decide) e)
      have q2 := sumN_upd (f := fun k => wv x k 0) (g := fun k => wv (inT x (lowerT t p) (goT t (higherT t p) (nI r))) k 0) (c := lowerT t p) (n := nC t) hl (fun k hk e => hr' k 0 (by decide) e)
      simp only [(d1 0 (by decide)).1] at q1
      simp only [(hl' 0 (by decide)).1, d2 _ 0 (by decide) hne] at q2
      have g1 := gN_le (t := t) (k := higherT t p) h1 (i := 0) (by decide)
      omega
  · rw [if_neg c]; exact h
end
section
variable {t : Row} {u s c : Nat}
/-- a number that is no bound's -/
theorem Bok.rw (h : Bok u s t) {x : Nat} {v : Int32} (hx : x = 0 ∨ x = 3 ∨ x = 5) : Bok u s (rw1 t x v) := by
  have hs : Seq t (rw1 t x v) := fun i hi => rw1_n _ (fun z => hi (by unfold Wet; omega))
  have hw : ∀ k i, (rw1 t x v) (7 + 6 * k + (3 + i)) = t (7 + 6 * k + (3 + i)) := fun k i => rw1_n _ (by omega)
  refine h.seq hs (fun k hk i hi => by rw [hw, wv_congr (hw k i)]; exact (h.1 k hk).2.2 i hi) (Nat.le_of_eq ?_) (Nat.le_of_eq ?_)
  · unfold tot12
    rw [hs.nC]
    exact sumN_congr fun k _ => by rw [wv_congr (hw k 1), wv_congr (hw k 2)]
  · unfold tot0
    rw [hs.nC]
    exact sumN_congr fun k _ => wv_congr (hw k 0)
theorem Bok.sp (h : Bok u s t) (hO : OvN u s) (hR : Rok t) (hc : c < nC t) {m : Nat} (hm : m ≤ fN t c) : Bok u s (spT t c (nI m)) := (h.dr hO hR hc hm).rw (by omega)
/-- what is lost, what is spilt, what is drunk: in plain numbers -/
theorem Bok.loses (h : Bok u s t) (hO : OvN u s) (hc : c < nC t) : ∃ m : Nat, losesT t c = nI m ∧ mayGo t c m := by
  have hf := h.fu hc
  have h30 := hO.1
  have e : fullT t c / 20 = nI (fN t c / 20) := by
    rw [h.full hc]
    have := pk_div (a := fN t c) (d := 20) (by omega) (by decide) (by decide)
    exact this
  unfold losesT mayGo
  rw [e]
  split
  · exact ⟨fN t c / 20, rfl, by omega, by omega⟩
  · split
    · split
      · exact ⟨0, rfl, by omega, by omega⟩
      · rename_i q
        have q' : ¬ fN t c / 20 < 1 := fun z => q ((nI_ltI (b := 1) (by omega) (by decide)).mpr z)
        refine ⟨fN t c / 20 - 1, ?_, by omega, by omega⟩
        have := pk_sub (a := fN t c / 20) (b := 1) (by omega)
        exact this
    · exact ⟨0, rfl, by omega, by omega⟩
theorem Bok.spill (h : Bok u s t) (hO : OvN u s) (hc : c < nC t) : ∃ m : Nat, wi (fullT t c / 4 + 1) 0 (fullT t c) = nI m ∧ mayGo t c m ∧ (if fullT t c / 4 + 1 < fullT t c then fullT t c / 4 + 1 else fullT t c) = nI m := by
  have hf := h.fu hc
  have h30 := hO.1
  have e : fullT t c / 4 = nI (fN t c / 4) := by
    rw [h.full hc]
    have := pk_div (a := fN t c) (d := 4) (by omega) (by decide) (by decide)
    exact this
  refine ⟨min (fN t c / 4 + 1) (fN t c), ?_, ⟨by omega, Or.inl (by omega)⟩, ?_⟩
  · rw [e, h.full hc, nI_1, wi_min (by omega) (by omega)]
  · rw [e, h.full hc, nI_1, mn_min (by omega) (by omega)]
theorem Bok.drink (h : Bok u s t) (hO : OvN u s) (hc : c < nC t) : ∃ m : Nat, wi 5 0 (fullT t c) = nI m ∧ mayGo t c m ∧ (if fullT t c < 5 then fullT t c else 5) = nI m := by
  have hf := h.fu hc
  have h30 := hO.1
  refine ⟨min 5 (fN t c), ?_, ⟨by omega, Or.inr (by omega)⟩, ?_⟩
  · rw [h.full hc]
    exact wi_min (v := 5) (by decide) (by omega)
  · rw [h.full hc]
    have := mn_min (v := fN t c) (F := 5) (by omega) (by decide)
    rw [Nat.min_comm]
    exact this
end
theorem itn_inv {α : Type} {f : Nat → α → α} {Q : Nat → α → Prop} : ∀ {n : Nat} {a : α}, Q 0 a → (∀ k b, k < n → Q k b → Q (k + 1) (f k b)) → Q n (itn f n a)
  | 0, _, h0, _ => h0
  | n + 1, _, h0, hs => hs n _ (by omega) (itn_inv h0 (fun k b hk => hs k b (by omega)))
section
variable {t : Row} {u s : Nat}
theorem Bok.step1 (h : Bok u s t) (hO : OvN u s) (hR : Rok t) : ∀ {k : Nat}, k ≤ nP t → Bok u s (itn (fun p t => flT t p) k t) ∧ Seq t (itn (fun p t => flT t p) k t)
  | 0, _ => ⟨h, Seq.refl⟩
  | k + 1, hk => by
    obtain ⟨h1, h2⟩ := h.step1 hO hR (k := k) (by omega)
    have hR1 := h2.rok hR
    have hk1 : k < nP (itn (fun p t => flT t p) k t) := by rw [h2.nP]; omega
    exact ⟨h1.fl hO hR1 hk1, h2.trans (flT_seq hR1 hk1)⟩
theorem Bok.step2 (h : Bok u s t) (hO : OvN u s) (hR : Rok t) : ∀ {k : Nat}, k ≤ nC t → Bok u s (itn (fun c t => spT t c (losesT t c)) k t) ∧ Seq t (itn (fun c t => spT t c (losesT t c)) k t)
  | 0, _ => ⟨h, Seq.refl⟩
  | k + 1, hk => by
    obtain ⟨h1, h2⟩ := h.step2 hO hR (k := k) (by omega)
    have hR1 := h2.rok hR
    have hk1 : k < nC (itn (fun c t => spT t c (losesT t c)) k t) := by rw [h2.nC]; omega
    obtain ⟨m, em, hm⟩ := h1.loses hO hk1
    refine ⟨?_, h2.trans (spT_seq (by have := hR1.1.2; omega) _)⟩
    show Bok u s (spT _ k (losesT _ k))
    rw [em]
    exact h1.sp hO hR1 hk1 hm.1
theorem Bok.step3 (h : Bok u s t) (hO : OvN u s) (hR : Rok t) : ∀ {k : Nat}, k ≤ nC t → Bok u s (itn st3f k t) ∧ Seq t (itn st3f k t)
  | 0, _ => ⟨h, Seq.refl⟩
  | k + 1, hk => by
    obtain ⟨h1, h2⟩ := h.step3 hO hR (k := k) (by omega)
    have hR1 := h2.rok hR
    have hk1 : k < nC (itn st3f k t) := by rw [h2.nC]; omega
    obtain ⟨m, em, hm, -⟩ := h1.spill hO hk1
    refine ⟨?_, h2.trans (st3f_seq (by have := hR1.1.2; omega))⟩
    obtain ⟨x, hx⟩ : ∃ x, x = itn st3f k t := ⟨_, rfl⟩
    show Bok u s (st3f k (itn st3f k t))
    rw [← hx] at h1 hR1 hk1 em hm ⊢
    unfold st3f
    split
    · rw [em]; exact h1.sp hO hR1 hk1 hm.1
    · exact h1
theorem Bok.step4 (h : Bok u s t) (hO : OvN u s) (hR : Rok t) : Bok u s (st4 t) := by
  unfold st4
  split
  · rename_i c
    have h0 : 0 < nC t := by
      have h1 := c.2
      rw [hR.1.1] at h1
      exact (nI_ltI (a := 0) (by decide) (by have := hR.1.2; omega)).mp h1
    obtain ⟨k, hk, ek⟩ := rem_z8 (drawT (drawT (t 0))) hR.1.1 h0 (by have := hR.1.2; omega)
    rw [ek, show (nI k).toNatClampNeg = k from nI_clamp (by have := hR.1.2; omega)]
    have hb := h.rw (x := 0) (v := drawT (drawT (t 0))) (by omega)
    have hs : Seq t (rw1 t 0 (drawT (drawT (t 0)))) := rw1_seq (by unfold Wet; omega) _
    obtain ⟨m, em, hm, -⟩ := h.drink hO hk
    rw [em]
    refine hb.dr hO (hs.rok hR) (by rw [hs.nC]; exact hk) ?_
    have e : fN (rw1 t 0 (drawT (drawT (t 0)))) k = fN t k := by
      unfold fN wv
      rw [rw1_n _ (by omega), rw1_n _ (by omega), rw1_n _ (by omega)]
    rw [e]
    exact hm.1
  · exact h.rw (by omega)
theorem Bok.hour (h : Bok u s t) (hO : OvN u s) (hR : Rok t) : Bok u s (hourT t) := by
  have s1 := st1_seq hR
  have b1 : Bok u s (st1 t) := (h.step1 hO hR (Nat.le_refl _)).1
  have r1 := s1.rok hR
  have b2 : Bok u s (st2 (st1 t)) := (b1.step2 hO r1 (Nat.le_refl _)).1
  have r2 := (st2_seq r1).rok r1
  have b3 : Bok u s (st3 (st2 (st1 t))) := (b2.step3 hO r2 (Nat.le_refl _)).1
  have r3 := (st3_seq r2).rok r2
  exact (b3.step4 hO r3).rw (by omega)
theorem Bok.hours (h : Bok u s t) (hO : OvN u s) (hR : Rok t) : ∀ n, Bok u s (hoursT n t)
  | 0 => h
  | n + 1 => (h.hours hO hR n).hour hO ((hoursT_seq hR n).rok hR)
end
