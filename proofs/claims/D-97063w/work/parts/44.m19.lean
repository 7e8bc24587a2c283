/-! the model: texts, the machine -/
set_option maxRecDepth 100000
section
variable {l : Launch} {G : GG} {th : Th} {rh : Rh} {ph : Ph} {ka : Ka} {y0 : Nat} {ay : Nat → Nat}
theorem isPt_congr {g h : Row} (e : ∀ j, j < 18 → g j = h j) (q : isPt h) : isPt g := by
  unfold isPt at *
  rw [e 11 (by decide), e 9 (by decide), e 10 (by decide), e 14 (by decide), e 12 (by decide)]
  exact q
theorem ptV_congr {g h : Row} (e : ∀ j, j < 18 → g j = h j) : ptV g = ptV h := by
  unfold ptV
  rw [e 11 (by decide), e 14 (by decide), e 12 (by decide)]
theorem isPt_tok {g : Row} (q : isPt g) : g 11 ≠ 0 := by
  rcases q with q | q
  · rw [q]; decide
  · rw [q.1]; decide
set_option maxHeartbeats 4000000 in
theorem ok_takesE (hL : LayM th rh y0 ay) {R : MR} {n : Nat} (hn96 : n ≤ 96) (hn : ka 1099 8 = nI n) {x0 f0 : Nat} (hfx0 : f0 ≤ x0) (hxn0 : x0 ≤ n) (hx9 : ka 1099 9 = nI x0) (hf10 : ka 1099 10 = nI f0) (hf1 : 1 ≤ f0) (htk0 : ka 1099 11 ≠ 0 → f0 < x0) (hR0 : runM (ka 1007) (n + 1) ⟨ka 1099, 1, 0, 0, [], [], fun _ => 0, 0⟩ = R) : Met l yX3_takesE (ws_ yX3_takesE cX3_takesE 5 (some .boolean)) (RM 5 0 0) (Pc_ G [.ref y0] th rh ph ka) (Qi G th rh ph (fun r ka' => But [1017, 1020, 1022, 1099] ka ka' ∧ (∀ j, j ≠ 18 → j ≠ 19 → j ≠ 21 → ka' 1099 j = R.g j) ∧ ((r = 1 ∧ ∃ g Z a, R = .inl (g, Z, a) ∧ Z.length ≤ 96 ∧ ka' 1099 18 = nI Z.length ∧ ka' 1099 19 = a ∧ Stk (ka' 1017) Z) ∨ (r = 0 ∧ ∃ g, R = .inr g)))) 0 0 (frG G) := by
  refine m_of (by decide) (Nat.le_of_ble_eq_true rfl) ?_
  intro p_ e_ s_ m_ below_ meth_ c_ B hr hnm ls hl hM
  have hx := B.1
  have hb := B.2.1
  have hM := hM
  have loop : ∀ (fu_loop : Nat) (k : Nat) (m : MS) (f : Nat) (x : Nat) (kb : Ka), k < fu_loop → (n - f < k) → (runM (ka 1007) k m = R) → (∀ j, j ≠ 18 → j ≠ 19 → j ≠ 21 → kb 1099 j = m.g j) → (m.g 8 = nI n) → (m.g 9 = nI x) → (m.g 10 = nI f) → (f ≤ x) → (x ≤ n) → (m.g 11 ≠ 0 → f < x) → (m.Y.length + m.Z.length + 1 ≤ f) → (kb 1099 21 = nI m.Y.length) → (kb 1099 18 = nI m.Z.length) → (kb 1099 19 = m.a) → (Stk (kb 1020) m.Y) → (Stk (kb 1017) m.Z) → (∀ j, j ≤ m.p → kb 1022 j = m.T j) → (cntO m.Y = m.p) → (m.p ≤ 8) → (m.w = 0 ∨ m.w = 1) → (m.q ≤ 96) → (But [1017, 1020, 1022, 1099] ka kb) → ∀ (ls : Array Slot) (H : Heap) (locs : List Loc), lv_has ls 5 [(0, .ref y0), (1, .int (nI m.p)), (2, .int (nI m.q)), (3, .int m.w)] → Md G th rh ph kb H locs → W p_ l e_ (RM 5 0 0) s_ m_ ([.ref y0].toArray) below_ meth_ c_ H locs 0 0 (MQ below_ (Qi G th rh ph (fun r ka' => But [1017, 1020, 1022, 1099] ka ka' ∧ (∀ j, j ≠ 18 → j ≠ 19 → j ≠ 21 → ka' 1099 j = R.g j) ∧ ((r = 1 ∧ ∃ g Z a, R = .inl (g, Z, a) ∧ Z.length ≤ 96 ∧ ka' 1099 18 = nI Z.length ∧ ka' 1099 19 = a ∧ Stk (ka' 1017) Z) ∨ (r = 0 ∧ ∃ g, R = .inr g)))) ([.ref y0].toArray) s_ 0 0 (frG G)) (F0 m_ 28 ls []) := by
    intro fu_loop
    induction fu_loop with
    | zero => intro k m f x kb hfu; exact absurd hfu (Nat.not_lt_zero _)
    | succ fu_loop ih_loop =>
      intro k m f x kb hfu_loop hk hrun hg h8 h9 h10 hfx hxn htk hlen hw hc hat hst hcd hT hop hp8 hw01 hq96 hbu ls H locs hl hM
      obtain ⟨k1, rfl⟩ : ∃ k1, k = k1 + 1 := ⟨k - 1, by omega⟩
      refine lv_iload_n hx hb dX3_takesE_28 rfl (lv_at hl 3 rfl) ?_
      refine lv_if_ne (tgt := 39) hx hb dX3_takesE_29 (by decide) (fun c29 => ?_) (fun c29 => ?_)
      · refine lv_iload_n hx hb dX3_takesE_39 rfl (lv_at hl 3 rfl) ?_
        refine lv_if_eq (tgt := 180) hx hb dX3_takesE_40 (by decide) (fun cZ => absurd cZ c29) (fun c40 => ?_)
        have j97 : ∀  (ls : Array Slot) (H : Heap) (locs : List Loc), (¬ (m.g 11 = 3 ∧ m.g 12 = 33 ∧ m.q < 8)) → lv_has ls 5 [(0, .ref y0), (1, .int (nI m.p)), (2, .int (nI m.q)), (3, .int m.w)] → Md G th rh ph kb H locs → W p_ l e_ (RM 5 0 0) s_ m_ ([.ref y0].toArray) below_ meth_ c_ H locs 0 0 (MQ below_ (Qi G th rh ph (fun r ka' => But [1017, 1020, 1022, 1099] ka ka' ∧ (∀ j, j ≠ 18 → j ≠ 19 → j ≠ 21 → ka' 1099 j = R.g j) ∧ ((r = 1 ∧ ∃ g Z a, R = .inl (g, Z, a) ∧ Z.length ≤ 96 ∧ ka' 1099 18 = nI Z.length ∧ ka' 1099 19 = a ∧ Stk (ka' 1017) Z) ∨ (r = 0 ∧ ∃ g, R = .inr g)))) ([.ref y0].toArray) s_ 0 0 (frG G)) (F0 m_ 97 ls []) := by
          intro  ls H locs hnn hl hM
          have j158 : ∀  (ls : Array Slot) (H : Heap) (locs : List Loc), (¬ (m.g 11 = 3 ∧ m.g 12 = 40 ∧ m.p < 8)) → lv_has ls 5 [(0, .ref y0), (1, .int (nI m.p)), (2, .int (nI m.q)), (3, .int m.w)] → Md G th rh ph kb H locs → W p_ l e_ (RM 5 0 0) s_ m_ ([.ref y0].toArray) below_ meth_ c_ H locs 0 0 (MQ below_ (Qi G th rh ph (fun r ka' => But [1017, 1020, 1022, 1099] ka ka' ∧ (∀ j, j ≠ 18 → j ≠ 19 → j ≠ 21 → ka' 1099 j = R.g j) ∧ ((r = 1 ∧ ∃ g Z a, R = .inl (g, Z, a) ∧ Z.length ≤ 96 ∧ ka' 1099 18 = nI Z.length ∧ ka' 1099 19 = a ∧ Stk (ka' 1017) Z) ∨ (r = 0 ∧ ∃ g, R = .inr g)))) ([.ref y0].toArray) s_ 0 0 (frG G)) (F0 m_ 158 ls []) := by
            intro  ls H locs hnp hl hM
            have hg0 : ∀ j, j < 18 → kb 1099 j = m.g j := fun j hj => hg j (by omega) (by omega) (by omega)
            refine lv_aload_n hx hb dX3_takesE_158 rfl (lv_at hl 0 rfl) ?_
            refine k_i (r_V (As := []) (rest := []) B hM hL.1 rfl rfl (ok_takesPart hL hn96 ((hg 8 (by decide) (by decide) (by decide)).trans h8) hxn ((hg 9 (by decide) (by decide) (by decide)).trans h9) (Y := m.Y) (Z := m.Z) (by omega) hw hc hst hcd) cal_X3_takesPart q1761 rfl hl.1 (Nat.le_of_ble_eq_true rfl) dX3_takesE_159 ⟨Nat.le_of_ble_eq_true rfl, Nat.le_of_ble_eq_true rfl⟩ ⟨Nat.le_of_ble_eq_true rfl, Nat.le_of_ble_eq_true rfl⟩) hM (fun r_1 ka_2 H locs p_3 hM => ?_)
            rcases p_3 with ⟨rfl, hpt0, hke⟩ | ⟨rfl, hpt0, hq1, hq2, hq3, hq4, hq5, hq6⟩
            · have hpt : ¬ isPt m.g := fun q => hpt0 (isPt_congr hg0 q)
              refine lv_if_eq (tgt := 170) hx hb dX3_takesE_162 (by decide) (fun c162 => ?_) (fun cZ => absurd (by decide) cZ)
              refine lv_iconst (v := 0) hx hb dX3_takesE_170 (by decide) ?_
              refine r_zret B hr hM dX3_takesE_171 (Or.inl rfl) ?_
              have hz := runM_end hrun (stM_nope c29 hnn hnp hpt)
              subst hz
              refine ⟨by rw [hke]; exact hbu, fun j h1 h2 h3 => ?_, Or.inr ⟨rfl, _, rfl⟩⟩
              rw [hke]
              exact hg j h1 h2 h3
            · have hpt : isPt m.g := isPt_congr (fun j hj => (hg0 j hj).symm) hpt0
              rw [ptV_congr hg0] at hq4 hq5 hq6
              obtain ⟨Y1, Z1, hS⟩ : ∃ Y1 Z1, setl 6 m.Y (ptV m.g :: m.Z) = (Y1, Z1) := ⟨_, _, rfl⟩
              have hlS := setl_len (k := 6) (W := m.Y) (C := ptV m.g :: m.Z)
              have hsS := setl_stk (k := 6) (C := ptV m.g :: m.Z) hst
              have hoS := cntO_setl (k := 6) (W := m.Y) (C := ptV m.g :: m.Z)
              rw [hS] at hq4 hq5 hq6 hlS hsS hoS
              simp only [List.length_cons] at hlS hq4 hq5 hq6 hsS hoS
              have hB_2 : But [1017, 1020, 1022, 1099] ka ka_2 := But.trans hbu (But.mono hq1 (by decide))
              have hg2 : ∀ j, j ≠ 18 → j ≠ 19 → j ≠ 21 → ka_2 1099 j = goF (ka 1007) m.g j := fun j h1 h2 h3 => by rw [hq2 j h1 h2 h3, hbu 1007 (by decide)]; exact goF_congr (hg 8 (by decide) (by decide) (by decide)) (hg 9 (by decide) (by decide) (by decide)) (hg 13 (by decide) (by decide) (by decide)) (hg j h1 h2 h3)
              have hw2 : ka_2 1099 21 = nI Y1.length := hq4
              have hc2 : ka_2 1099 18 = nI Z1.length := hq5
              have ha2 : ka_2 1099 19 = m.a + 1 := by rw [hq3, hat]
              have hst2 : Stk (ka_2 1020) Y1 := by rw [hq1 1020 (by decide)]; exact hsS
              have hcd2 : Stk (ka_2 1017) Z1 := hq6
              have hT2 : ∀ j, j ≤ m.p → ka_2 1022 j = m.T j := by rw [hq1 1022 (by decide)]; exact hT
              have hf0 : f < x := htk (isPt_tok hpt)
              have hlN : Y1.length + Z1.length + 1 ≤ 96 := by omega
              obtain ⟨f2, x2, hA1, hA2, hA3, hA4, hA5, hA6⟩ := goF_adv (tp := ka 1007) hn96 h8 h9 hxn
              refine lv_if_eq (tgt := 170) hx hb dX3_takesE_162 (by decide) (fun cZ => absurd cZ (by decide)) (fun c162 => ?_)
              refine lv_iconst (v := 0) hx hb dX3_takesE_165 (by decide) ?_
              refine lv_istore_n (lv' := [(3, .int 0), (0, .ref y0), (1, .int (nI m.p)), (2, .int (nI m.q))]) hx hb dX3_takesE_166 rfl hl (by decide) rfl (fun ls hl => ?_)
              refine lv_goto (tgt := 172) hx hb dX3_takesE_167 (by decide) ?_
              refine lv_aload_n hx hb dX3_takesE_172 rfl (lv_at hl 1 rfl) ?_
              refine k_pe (v := nI (cntI (ka_2 1020) (Y1).length)) (r_V (As := []) (rest := []) B hM hL.1 rfl rfl (ok_notsOpen hL (m := (Y1).length) (by have hln := hlN; (try simp only [List.length_cons] at *); omega) hw2) cal_X3_notsOpen q1776 rfl hl.1 (Nat.le_of_ble_eq_true rfl) dX3_takesE_173 ⟨Nat.le_of_ble_eq_true rfl, Nat.le_of_ble_eq_true rfl⟩ ⟨Nat.le_of_ble_eq_true rfl, Nat.le_of_ble_eq_true rfl⟩) hM (fun H locs hM => ?_)
              refine r_topv (v := nI (cntN (Y1))) (by rw [cntI_stk hst2]) ?_
              refine lv_istore_n (lv' := [(2, .int (nI (cntN (Y1)))), (3, .int 0), (0, .ref y0), (1, .int (nI m.p))]) hx hb dX3_takesE_176 rfl hl (by decide) rfl (fun ls hl => ?_)
              refine lv_goto (tgt := 28) hx hb dX3_takesE_177 (by decide) ?_
              exact ih_loop k1 (⟨goF (ka 1007) m.g, 0, m.p, cntN Y1, Y1, Z1, m.T, m.a + 1⟩) f2 x2 ka_2 (by omega) (by omega) (by have hz := runM_more hrun (stM_part c29 hnn hnp hpt); rw [hS] at hz; exact hz) hg2 (by show goF (ka 1007) m.g 8 = _; rw [goF_keep (by omega)]; exact h8) hA2 hA1 hA4 hA5 hA6 (by show Y1.length + Z1.length + 1 ≤ f2; omega) hw2 hc2 ha2 hst2 hcd2 hT2 (hoS.trans hop) hp8 (Or.inl rfl) (by have := cntN_le Y1; show cntN Y1 ≤ 96; omega) hB_2 _ _ _ (lv_sub hl [2, 3, 0, 1] rfl) hM
          refine lv_aload_n hx hb dX3_takesE_97 rfl (lv_at hl 0 rfl) ?_
          refine r_geti B hM 11 hL.1 rfl (by decide) rfl rfl q1393 dX3_takesE_98 ?_
          refine r_topv (v := m.g 11) (hg 11 (by decide) (by decide) (by decide)) ?_
          refine lv_iconst (v := 3) hx hb dX3_takesE_101 (by decide) ?_
          refine lv_icmp_ne (tgt := 158) hx hb dX3_takesE_102 (by decide) (fun c102 => ?_) (fun c102 => ?_)
          · exact j158  _ _ _ (fun z => c102 z.1) (lv_sub hl [0, 1, 2, 3] rfl) hM
          · refine lv_aload_n hx hb dX3_takesE_105 rfl (lv_at hl 0 rfl) ?_
            refine r_geti B hM 12 hL.1 rfl (by decide) rfl rfl q1394 dX3_takesE_106 ?_
            refine r_topv (v := m.g 12) (hg 12 (by decide) (by decide) (by decide)) ?_
            refine lv_bipush (v := 40) hx hb dX3_takesE_109 (by decide) ?_
            refine lv_icmp_ne (tgt := 158) hx hb dX3_takesE_111 (by decide) (fun c111 => ?_) (fun c111 => ?_)
            · exact j158  _ _ _ (fun z => c111 z.2.1) (lv_sub hl [0, 1, 2, 3] rfl) hM
            · refine lv_iload_n hx hb dX3_takesE_114 rfl (lv_at hl 1 rfl) ?_
              refine lv_bipush (v := 8) hx hb dX3_takesE_115 (by decide) ?_
              refine lv_icmp_ge (tgt := 158) hx hb dX3_takesE_117 (by decide) (fun c117 => ?_) (fun c117 => ?_)
              · have n117 : 8 ≤ m.p := ntLe rfl rfl (by omega) (by omega) c117
                exact j158  _ _ _ (fun z => absurd z.2.2 (by omega)) (lv_sub hl [0, 1, 2, 3] rfl) hM
              · have n117 : m.p < 8 := ntNle rfl rfl (by omega) (by omega) c117
                have hf0 : f < x := htk (by rw [c102]; decide)
                refine lv_aload_n hx hb dX3_takesE_120 rfl (lv_at hl 0 rfl) ?_
                refine r_getq B hM 20 hL.1 rfl (by decide) rfl rfl (hL.2 20 _ _ rfl).1 q1402 dX3_takesE_121 ?_
                refine lv_aload_n hx hb dX3_takesE_124 rfl (lv_at hl 0 rfl) ?_
                refine r_geti B hM 21 hL.1 rfl (by decide) rfl rfl q1403 dX3_takesE_125 ?_
                refine lv_bipush (v := (-11)) hx hb dX3_takesE_128 (by decide) ?_
                refine r_ist B hM m.Y.length (hL.2 20 _ _ rfl).2 (by rw [hw]) (by omega) (by decide) dX3_takesE_130 (fun ka_4 H locs eka_4 hM => ?_)
                have hB_4 : But [1017, 1020, 1022, 1099] ka ka_4 := But.trans hbu (by rw [eka_4]; exact But.up (by decide))
                refine lv_aload_n hx hb dX3_takesE_131 rfl (lv_at hl 0 rfl) ?_
                refine lv_dup hx hb dX3_takesE_132 rfl ?_
                refine r_geti B hM 21 hL.1 rfl (by decide) rfl rfl q1403 dX3_takesE_133 ?_
                refine r_topv (v := kb 1099 21) (by rw [eka_4, up2_a _ _ _ (by decide)]) ?_
                refine lv_iconst (v := 1) hx hb dX3_takesE_136 (by decide) ?_
                refine lv_iadd hx hb dX3_takesE_137 ?_
                refine r_topv (v := nI (m.Y.length + 1)) (by rw [hw]; exact nI_1 _) ?_
                refine r_puti B hM 21 hL.1 rfl (by decide) rfl rfl q1403 dX3_takesE_138 (fun ka_5 H locs eka_5 hM => ?_)
                have hB_5 : But [1017, 1020, 1022, 1099] ka ka_5 := But.trans hB_4 (by rw [eka_5]; exact But.up (by decide))
                refine lv_iinc (v := nI (m.p + 1)) (lv' := [(1, .int (nI (m.p + 1))), (0, .ref y0), (2, .int (nI m.q)), (3, .int m.w)]) hx hb dX3_takesE_141 hl (k := 1) rfl (nI_1 _) (by decide) rfl (fun ls hl => ?_)
                refine lv_aload_n hx hb dX3_takesE_144 rfl (lv_at hl 1 rfl) ?_
                refine r_getq B hM 22 hL.1 rfl (by decide) rfl rfl (hL.2 22 _ _ rfl).1 q1404 dX3_takesE_145 ?_
                refine lv_iload_n hx hb dX3_takesE_148 rfl (lv_at hl 0 rfl) ?_
                refine lv_iconst (v := 0) hx hb dX3_takesE_149 (by decide) ?_
                refine r_zst B hM (m.p + 1) (hL.2 22 _ _ rfl).2 rfl (by omega) (by decide) dX3_takesE_150 (fun ka_6 H locs eka_6 hM => ?_)
                have hB_6 : But [1017, 1020, 1022, 1099] ka ka_6 := But.trans hB_5 (by rw [eka_6]; exact But.up (by decide))
                have hf1 : ∀ j, j ≠ 18 → j ≠ 19 → j ≠ 21 → ka_6 1099 j = m.g j := fun j h1 h2 h3 => by rw [eka_6, up2_a _ _ _ (by decide), eka_5, up2_i _ _ _ _ h3, eka_4, up2_a _ _ _ (by decide)]; exact hg j h1 h2 h3
                have hw1 : ka_6 1099 21 = nI (-11 :: m.Y).length := by rw [eka_6, up2_a _ _ _ (by decide), eka_5, up2_s]; rfl
                have hc1 : ka_6 1099 18 = nI (m.Z).length := by rw [eka_6, up2_a _ _ _ (by decide), eka_5, up2_i _ _ _ _ (by decide), eka_4, up2_a _ _ _ (by decide)]; exact hc
                have ha1 : ka_6 1099 19 = m.a := by rw [eka_6, up2_a _ _ _ (by decide), eka_5, up2_i _ _ _ _ (by decide), eka_4, up2_a _ _ _ (by decide)]; exact hat
                have hst1 : Stk (ka_6 1020) (-11 :: m.Y) := by rw [eka_6, up2_a _ _ _ (by decide), eka_5, up2_a _ _ _ (by decide), eka_4, up2_row]; exact hst.push (-11)
                have hcd1 : Stk (ka_6 1017) (m.Z) := by rw [eka_6, up2_a _ _ _ (by decide), eka_5, up2_a _ _ _ (by decide), eka_4, up2_a _ _ _ (by decide)]; exact hcd
                have hT1 : ∀ j, j ≤ m.p + 1 → ka_6 1022 j = rw1 m.T (m.p + 1) 0 j := fun j hj => by rw [eka_6, up2_row, eka_5, up2_a _ _ _ (by decide), eka_4, up2_a _ _ _ (by decide)]; by_cases q : j = m.p + 1; (subst q; rw [rw1_s, va_up_self]; rfl); (rw [rw1_n _ q, va_up_ne _ _ q]; exact hT j (by omega))
                refine lv_aload_n hx hb dX3_takesE_151 rfl (lv_at hl 1 rfl) ?_
                refine k_v (r_V (As := []) (rest := []) B hM hL.1 rfl rfl (ok_go hL hn96 (n := n) ((hf1 8 (by decide) (by decide) (by decide)).trans h8) (x := x) hxn ((hf1 9 (by decide) (by decide) (by decide)).trans h9)) cal_X3_go q1741 rfl hl.1 (Nat.le_of_ble_eq_true rfl) dX3_takesE_152 ⟨Nat.le_of_ble_eq_true rfl, Nat.le_of_ble_eq_true rfl⟩ ⟨Nat.le_of_ble_eq_true rfl, Nat.le_of_ble_eq_true rfl⟩) hM (fun ka_7 H locs p_8 hM => ?_)
                have ego := p_8
                rw [hB_6 1007 (by decide)] at ego
                have hq : But [1099] ka_6 ka_7 := by rw [ego]; exact fun a ha => up1_a _ _ (fun z => ha (List.mem_singleton.mpr z))
                have hB_7 : But [1017, 1020, 1022, 1099] ka ka_7 := But.trans hB_6 (But.mono hq (by decide))
                have hg2 : ∀ j, j ≠ 18 → j ≠ 19 → j ≠ 21 → ka_7 1099 j = goF (ka 1007) m.g j := fun j h1 h2 h3 => by rw [ego, up1_s]; exact goF_congr (hf1 8 (by decide) (by decide) (by decide)) (hf1 9 (by decide) (by decide) (by decide)) (hf1 13 (by decide) (by decide) (by decide)) (hf1 j h1 h2 h3)
                have hw2 : ka_7 1099 21 = nI (-11 :: m.Y).length := by rw [ego, up1_s, goF_keep (by omega)]; exact hw1
                have hc2 : ka_7 1099 18 = nI (m.Z).length := by rw [ego, up1_s, goF_keep (by omega)]; exact hc1
                have ha2 : ka_7 1099 19 = m.a := by rw [ego, up1_s, goF_keep (by omega)]; exact ha1
                have hst2 : Stk (ka_7 1020) (-11 :: m.Y) := by rw [ego, up1_a _ _ (by decide)]; exact hst1
                have hcd2 : Stk (ka_7 1017) (m.Z) := by rw [ego, up1_a _ _ (by decide)]; exact hcd1
                have hT2 : ∀ j, j ≤ m.p + 1 → ka_7 1022 j = rw1 m.T (m.p + 1) 0 j := by rw [ego, up1_a _ _ (by decide)]; exact hT1
                obtain ⟨f2, x2, hA1, hA2, hA3, hA4, hA5, hA6⟩ := goF_adv (tp := ka 1007) hn96 h8 h9 hxn
                refine lv_goto (tgt := 172) hx hb dX3_takesE_155 (by decide) ?_
                refine lv_aload_n hx hb dX3_takesE_172 rfl (lv_at hl 1 rfl) ?_
                refine k_pe (v := nI (cntI (ka_7 1020) (-11 :: m.Y).length)) (r_V (As := []) (rest := []) B hM hL.1 rfl rfl (ok_notsOpen hL (m := (-11 :: m.Y).length) (by have hln := hlen; (try simp only [List.length_cons] at *); omega) hw2) cal_X3_notsOpen q1776 rfl hl.1 (Nat.le_of_ble_eq_true rfl) dX3_takesE_173 ⟨Nat.le_of_ble_eq_true rfl, Nat.le_of_ble_eq_true rfl⟩ ⟨Nat.le_of_ble_eq_true rfl, Nat.le_of_ble_eq_true rfl⟩) hM (fun H locs hM => ?_)
                refine r_topv (v := nI (cntN (-11 :: m.Y))) (by rw [cntI_stk hst2]) ?_
                refine lv_istore_n (lv' := [(2, .int (nI (cntN (-11 :: m.Y)))), (1, .int (nI (m.p + 1))), (0, .ref y0), (3, .int m.w)]) hx hb dX3_takesE_176 rfl hl (by decide) rfl (fun ls hl => ?_)
                refine lv_goto (tgt := 28) hx hb dX3_takesE_177 (by decide) ?_
                exact ih_loop k1 (⟨goF (ka 1007) m.g, m.w, m.p + 1, cntN (-11 :: m.Y), -11 :: m.Y, m.Z, rw1 m.T (m.p + 1) 0, m.a⟩) f2 x2 ka_7 (by omega) (by omega) (runM_more hrun (stM_par c29 hnn ⟨c102, c111, n117⟩)) hg2 (by show goF (ka 1007) m.g 8 = _; rw [goF_keep (by omega)]; exact h8) hA2 hA1 hA4 hA5 hA6 (by show (-11 :: m.Y).length + m.Z.length + 1 ≤ f2; simp only [List.length_cons]; omega) hw2 hc2 ha2 hst2 hcd2 hT2 (by show cntO (-11 :: m.Y) = m.p + 1; rw [cntO_cons, if_pos rfl, hop]) (by show m.p + 1 ≤ 8; omega) hw01 (by have := cntN_le (-11 :: m.Y); show cntN (-11 :: m.Y) ≤ 96; simp only [List.length_cons] at this; omega) hB_7 _ _ _ (lv_sub hl [2, 1, 0, 3] rfl) hM
        refine lv_aload_n hx hb dX3_takesE_43 rfl (lv_at hl 0 rfl) ?_
        refine r_geti B hM 11 hL.1 rfl (by decide) rfl rfl q1393 dX3_takesE_44 ?_
        refine r_topv (v := m.g 11) (hg 11 (by decide) (by decide) (by decide)) ?_
        refine lv_iconst (v := 3) hx hb dX3_takesE_47 (by decide) ?_
        refine lv_icmp_ne (tgt := 97) hx hb dX3_takesE_48 (by decide) (fun c48 => ?_) (fun c48 => ?_)
        · exact j97  _ _ _ (fun z => c48 z.1) (lv_sub hl [0, 1, 2, 3] rfl) hM
        · refine lv_aload_n hx hb dX3_takesE_51 rfl (lv_at hl 0 rfl) ?_
          refine r_geti B hM 12 hL.1 rfl (by decide) rfl rfl q1394 dX3_takesE_52 ?_
          refine r_topv (v := m.g 12) (hg 12 (by decide) (by decide) (by decide)) ?_
          refine lv_bipush (v := 33) hx hb dX3_takesE_55 (by decide) ?_
          refine lv_icmp_ne (tgt := 97) hx hb dX3_takesE_57 (by decide) (fun c57 => ?_) (fun c57 => ?_)
          · exact j97  _ _ _ (fun z => c57 z.2.1) (lv_sub hl [0, 1, 2, 3] rfl) hM
          · refine lv_iload_n hx hb dX3_takesE_60 rfl (lv_at hl 2 rfl) ?_
            refine lv_bipush (v := 8) hx hb dX3_takesE_61 (by decide) ?_
            refine lv_icmp_ge (tgt := 97) hx hb dX3_takesE_63 (by decide) (fun c63 => ?_) (fun c63 => ?_)
            · have n63 : 8 ≤ m.q := ntLe rfl rfl (by omega) (by omega) c63
              exact j97  _ _ _ (fun z => absurd z.2.2 (by omega)) (lv_sub hl [0, 1, 2, 3] rfl) hM
            · have n63 : m.q < 8 := ntNle rfl rfl (by omega) (by omega) c63
              have hf0 : f < x := htk (by rw [c48]; decide)
              refine lv_aload_n hx hb dX3_takesE_66 rfl (lv_at hl 0 rfl) ?_
              refine r_getq B hM 20 hL.1 rfl (by decide) rfl rfl (hL.2 20 _ _ rfl).1 q1402 dX3_takesE_67 ?_
              refine lv_aload_n hx hb dX3_takesE_70 rfl (lv_at hl 0 rfl) ?_
              refine r_geti B hM 21 hL.1 rfl (by decide) rfl rfl q1403 dX3_takesE_71 ?_
              refine lv_bipush (v := (-10)) hx hb dX3_takesE_74 (by decide) ?_
              refine r_ist B hM m.Y.length (hL.2 20 _ _ rfl).2 (by rw [hw]) (by omega) (by decide) dX3_takesE_76 (fun ka_9 H locs eka_9 hM => ?_)
              have hB_9 : But [1017, 1020, 1022, 1099] ka ka_9 := But.trans hbu (by rw [eka_9]; exact But.up (by decide))
              refine lv_aload_n hx hb dX3_takesE_77 rfl (lv_at hl 0 rfl) ?_
              refine lv_dup hx hb dX3_takesE_78 rfl ?_
              refine r_geti B hM 21 hL.1 rfl (by decide) rfl rfl q1403 dX3_takesE_79 ?_
              refine r_topv (v := kb 1099 21) (by rw [eka_9, up2_a _ _ _ (by decide)]) ?_
              refine lv_iconst (v := 1) hx hb dX3_takesE_82 (by decide) ?_
              refine lv_iadd hx hb dX3_takesE_83 ?_
              refine r_topv (v := nI (m.Y.length + 1)) (by rw [hw]; exact nI_1 _) ?_
              refine r_puti B hM 21 hL.1 rfl (by decide) rfl rfl q1403 dX3_takesE_84 (fun ka_10 H locs eka_10 hM => ?_)
              have hB_10 : But [1017, 1020, 1022, 1099] ka ka_10 := But.trans hB_9 (by rw [eka_10]; exact But.up (by decide))
              refine lv_iinc (v := nI (m.q + 1)) (lv' := [(2, .int (nI (m.q + 1))), (0, .ref y0), (1, .int (nI m.p)), (3, .int m.w)]) hx hb dX3_takesE_87 hl (k := 2) rfl (nI_1 _) (by decide) rfl (fun ls hl => ?_)
              have hf1 : ∀ j, j ≠ 18 → j ≠ 19 → j ≠ 21 → ka_10 1099 j = m.g j := fun j h1 h2 h3 => by rw [eka_10, up2_i _ _ _ _ h3, eka_9, up2_a _ _ _ (by decide)]; exact hg j h1 h2 h3
              have hw1 : ka_10 1099 21 = nI (-10 :: m.Y).length := by rw [eka_10, up2_s]; rfl
              have hc1 : ka_10 1099 18 = nI (m.Z).length := by rw [eka_10, up2_i _ _ _ _ (by decide), eka_9, up2_a _ _ _ (by decide)]; exact hc
              have ha1 : ka_10 1099 19 = m.a := by rw [eka_10, up2_i _ _ _ _ (by decide), eka_9, up2_a _ _ _ (by decide)]; exact hat
              have hst1 : Stk (ka_10 1020) (-10 :: m.Y) := by rw [eka_10, up2_a _ _ _ (by decide), eka_9, up2_row]; exact hst.push (-10)
              have hcd1 : Stk (ka_10 1017) (m.Z) := by rw [eka_10, up2_a _ _ _ (by decide), eka_9, up2_a _ _ _ (by decide)]; exact hcd
              have hT1 : ∀ j, j ≤ m.p → ka_10 1022 j = m.T j := fun j hj => by rw [eka_10, up2_a _ _ _ (by decide), eka_9, up2_a _ _ _ (by decide)]; exact hT j hj
              refine lv_aload_n hx hb dX3_takesE_90 rfl (lv_at hl 1 rfl) ?_
              refine k_v (r_V (As := []) (rest := []) B hM hL.1 rfl rfl (ok_go hL hn96 (n := n) ((hf1 8 (by decide) (by decide) (by decide)).trans h8) (x := x) hxn ((hf1 9 (by decide) (by decide) (by decide)).trans h9)) cal_X3_go q1741 rfl hl.1 (Nat.le_of_ble_eq_true rfl) dX3_takesE_91 ⟨Nat.le_of_ble_eq_true rfl, Nat.le_of_ble_eq_true rfl⟩ ⟨Nat.le_of_ble_eq_true rfl, Nat.le_of_ble_eq_true rfl⟩) hM (fun ka_11 H locs p_12 hM => ?_)
              have ego := p_12
              rw [hB_10 1007 (by decide)] at ego
              have hq : But [1099] ka_10 ka_11 := by rw [ego]; exact fun a ha => up1_a _ _ (fun z => ha (List.mem_singleton.mpr z))
              have hB_11 : But [1017, 1020, 1022, 1099] ka ka_11 := But.trans hB_10 (But.mono hq (by decide))
              have hg2 : ∀ j, j ≠ 18 → j ≠ 19 → j ≠ 21 → ka_11 1099 j = goF (ka 1007) m.g j := fun j h1 h2 h3 => by rw [ego, up1_s]; exact goF_congr (hf1 8 (by decide) (by decide) (by decide)) (hf1 9 (by decide) (by decide) (by decide)) (hf1 13 (by decide) (by decide) (by decide)) (hf1 j h1 h2 h3)
              have hw2 : ka_11 1099 21 = nI (-10 :: m.Y).length := by rw [ego, up1_s, goF_keep (by omega)]; exact hw1
              have hc2 : ka_11 1099 18 = nI (m.Z).length := by rw [ego, up1_s, goF_keep (by omega)]; exact hc1
              have ha2 : ka_11 1099 19 = m.a := by rw [ego, up1_s, goF_keep (by omega)]; exact ha1
              have hst2 : Stk (ka_11 1020) (-10 :: m.Y) := by rw [ego, up1_a _ _ (by decide)]; exact hst1
              have hcd2 : Stk (ka_11 1017) (m.Z) := by rw [ego, up1_a _ _ (by decide)]; exact hcd1
              have hT2 : ∀ j, j ≤ m.p → ka_11 1022 j = m.T j := by rw [ego, up1_a _ _ (by decide)]; exact hT1
              obtain ⟨f2, x2, hA1, hA2, hA3, hA4, hA5, hA6⟩ := goF_adv (tp := ka 1007) hn96 h8 h9 hxn
              refine lv_goto (tgt := 172) hx hb dX3_takesE_94 (by decide) ?_
              refine lv_aload_n hx hb dX3_takesE_172 rfl (lv_at hl 1 rfl) ?_
              refine k_pe (v := nI (cntI (ka_11 1020) (-10 :: m.Y).length)) (r_V (As := []) (rest := []) B hM hL.1 rfl rfl (ok_notsOpen hL (m := (-10 :: m.Y).length) (by have hln := hlen; (try simp only [List.length_cons] at *); omega) hw2) cal_X3_notsOpen q1776 rfl hl.1 (Nat.le_of_ble_eq_true rfl) dX3_takesE_173 ⟨Nat.le_of_ble_eq_true rfl, Nat.le_of_ble_eq_true rfl⟩ ⟨Nat.le_of_ble_eq_true rfl, Nat.le_of_ble_eq_true rfl⟩) hM (fun H locs hM => ?_)
              refine r_topv (v := nI (cntN (-10 :: m.Y))) (by rw [cntI_stk hst2]) ?_
              refine lv_istore_n (lv' := [(2, .int (nI (cntN (-10 :: m.Y)))), (0, .ref y0), (1, .int (nI m.p)), (3, .int m.w)]) hx hb dX3_takesE_176 rfl hl (by decide) rfl (fun ls hl => ?_)
              refine lv_goto (tgt := 28) hx hb dX3_takesE_177 (by decide) ?_
              exact ih_loop k1 (⟨goF (ka 1007) m.g, m.w, m.p, cntN (-10 :: m.Y), -10 :: m.Y, m.Z, m.T, m.a⟩) f2 x2 ka_11 (by omega) (by omega) (runM_more hrun (stM_not c29 ⟨c48, c57, n63⟩)) hg2 (by show goF (ka 1007) m.g 8 = _; rw [goF_keep (by omega)]; exact h8) hA2 hA1 hA4 hA5 hA6 (by show (-10 :: m.Y).length + m.Z.length + 1 ≤ f2; simp only [List.length_cons]; omega) hw2 hc2 ha2 hst2 hcd2 hT2 (by show cntO (-10 :: m.Y) = m.p; rw [cntO_cons, if_neg (by decide)]; exact hop) hp8 hw01 (by have := cntN_le (-10 :: m.Y); show cntN (-10 :: m.Y) ≤ 96; simp only [List.length_cons] at this; omega) hB_11 _ _ _ (lv_sub hl [1, 2, 0, 3] rfl) hM
      · refine lv_aload_n hx hb dX3_takesE_32 rfl (lv_at hl 0 rfl) ?_
        refine r_geti B hM 11 hL.1 rfl (by decide) rfl rfl q1393 dX3_takesE_33 ?_
        refine r_topv (v := m.g 11) (hg 11 (by decide) (by decide) (by decide)) ?_
        refine lv_if_eq (tgt := 345) hx hb dX3_takesE_36 (by decide) (fun c36 => ?_) (fun c36 => ?_)
        · refine lv_aload_n hx hb dX3_takesE_345 rfl (lv_at hl 0 rfl) ?_
          refine lv_iconst (v := 0) hx hb dX3_takesE_346 (by decide) ?_
          refine k_v (r_V (As := [.int 0]) (rest := []) B hM hL.1 rfl rfl (ok_settle hL (Y0 := m.Y) (Z0 := m.Z) (by omega) hw hc hst hcd 0) cal_X3_settle q1769 rfl hl.1 (Nat.le_of_ble_eq_true rfl) dX3_takesE_347 ⟨Nat.le_of_ble_eq_true rfl, Nat.le_of_ble_eq_true rfl⟩ ⟨Nat.le_of_ble_eq_true rfl, Nat.le_of_ble_eq_true rfl⟩) hM (fun ka_13 H locs p_14 hM => ?_)
          obtain ⟨hu1, hu2, hu3, hu4, hu5⟩ := p_14
          have hlS := setl_len (k := 0) (W := m.Y) (C := m.Z)
          have hsS := setl_stk (k := 0) (C := m.Z) hst
          have hoS := cntO_setl (k := 0) (W := m.Y) (C := m.Z)
          have hB_13 : But [1017, 1020, 1022, 1099] ka ka_13 := But.trans hbu (But.mono hu1 (by decide))
          refine lv_iload_n hx hb dX3_takesE_350 rfl (lv_at hl 1 rfl) ?_
          refine lv_if_ne (tgt := 358) hx hb dX3_takesE_351 (by decide) (fun c351 => ?_) (fun c351 => ?_)
          · have n351 : m.p ≠ 0 := ntNe rfl rfl (by omega) (by omega) c351
            refine lv_iconst (v := 0) hx hb dX3_takesE_358 (by decide) ?_
            refine r_zret B hr hM dX3_takesE_359 (Or.inl rfl) ?_
            have hz := runM_end hrun (stM_left c29 c36 n351)
            subst hz
            exact ⟨hB_13, fun j h1 h2 h3 => (hu2 j h1 h3).trans (hg j h1 h2 h3), Or.inr ⟨rfl, _, rfl⟩⟩
          · have n351 : m.p = 0 := ntEq rfl rfl (by omega) (by omega) c351
            refine lv_iconst (v := 1) hx hb dX3_takesE_354 (by decide) ?_
            refine lv_goto (tgt := 359) hx hb dX3_takesE_355 (by decide) ?_
            refine r_zret B hr hM dX3_takesE_359 (Or.inr rfl) ?_
            have hz := runM_end hrun (stM_end c29 c36 n351)
            subst hz
            exact ⟨hB_13, fun j h1 h2 h3 => (hu2 j h1 h3).trans (hg j h1 h2 h3), Or.inl ⟨rfl, _, _, _, rfl, by omega, hu4, (hu2 19 (by decide) (by decide)).trans hat, hu5⟩⟩
        · refine lv_iload_n hx hb dX3_takesE_39 rfl (lv_at hl 3 rfl) ?_
          refine lv_if_eq (tgt := 180) hx hb dX3_takesE_40 (by decide) (fun c40 => ?_) (fun cZ => absurd c29 cZ)
          have j237 : ∀  (ls : Array Slot) (H : Heap) (locs : List Loc), (¬ (m.g 11 = 3 ∧ m.g 12 = 41 ∧ 0 < m.p)) → lv_has ls 5 [(0, .ref y0), (1, .int (nI m.p)), (2, .int (nI m.q)), (3, .int m.w)] → Md G th rh ph kb H locs → W p_ l e_ (RM 5 0 0) s_ m_ ([.ref y0].toArray) below_ meth_ c_ H locs 0 0 (MQ below_ (Qi G th rh ph (fun r ka' => But [1017, 1020, 1022, 1099] ka ka' ∧ (∀ j, j ≠ 18 → j ≠ 19 → j ≠ 21 → ka' 1099 j = R.g j) ∧ ((r = 1 ∧ ∃ g Z a, R = .inl (g, Z, a) ∧ Z.length ≤ 96 ∧ ka' 1099 18 = nI Z.length ∧ ka' 1099 19 = a ∧ Stk (ka' 1017) Z) ∨ (r = 0 ∧ ∃ g, R = .inr g)))) ([.ref y0].toArray) s_ 0 0 (frG G)) (F0 m_ 237 ls []) := by
            intro  ls H locs hnsh hl hM
            have hf0 : f < x := htk c36
            refine lv_aload_n hx hb dX3_takesE_237 rfl (lv_at hl 0 rfl) ?_
            refine k_pe (v := sgnT (kb 1099 11) (kb 1099 12)) (r_V (As := []) (rest := []) B hM hL.1 rfl rfl (ok_signHere hL) cal_X3_signHere q1780 rfl hl.1 (Nat.le_of_ble_eq_true rfl) dX3_takesE_238 ⟨Nat.le_of_ble_eq_true rfl, Nat.le_of_ble_eq_true rfl⟩ ⟨Nat.le_of_ble_eq_true rfl, Nat.le_of_ble_eq_true rfl⟩) hM (fun H locs hM => ?_)
            refine r_topv (v := sgnT (m.g 11) (m.g 12)) (by rw [hg 11 (by decide) (by decide) (by decide), hg 12 (by decide) (by decide) (by decide)]) ?_
            refine lv_topi (fun v_15 ev_15 => ?_)
            refine lv_istore (lv' := [(4, .int v_15), (0, .ref y0), (1, .int (nI m.p)), (2, .int (nI m.q)), (3, .int m.w)]) hx hb dX3_takesE_241 hl (by decide) rfl (fun ls hl => ?_)
            refine lv_iload hx hb dX3_takesE_243 (lv_at hl 0 rfl) ?_
            refine lv_if_eq (tgt := 266) hx hb dX3_takesE_245 (by decide) (fun c245 => ?_) (fun c245 => ?_)
            · refine lv_iconst (v := 0) hx hb dX3_takesE_266 (by decide) ?_
              refine r_zret B hr hM dX3_takesE_267 (Or.inl rfl) ?_
              have hz := runM_end hrun (stM_sno c29 c36 hnsh (Or.inl (by rw [← ev_15]; exact c245)))
              subst hz
              exact ⟨hbu, hg, Or.inr ⟨rfl, _, rfl⟩⟩
            · refine lv_iload hx hb dX3_takesE_248 (lv_at hl 0 rfl) ?_
              refine k_pe (v := rankT v_15) (r_S (As := [.int v_15]) (rest := []) B hM (ok_rank v_15) cal_X3_rank q1773 rfl hl.1 (Nat.le_of_ble_eq_true rfl) dX3_takesE_250 ⟨Nat.le_of_ble_eq_true rfl, Nat.le_of_ble_eq_true rfl⟩ ⟨Nat.le_of_ble_eq_true rfl, Nat.le_of_ble_eq_true rfl⟩) hM (fun H locs hM => ?_)
              refine lv_iconst (v := 3) hx hb dX3_takesE_253 (by decide) ?_
              refine lv_icmp_ne (tgt := 268) hx hb dX3_takesE_254 (by decide) (fun c254 => ?_) (fun c254 => ?_)
              · refine lv_aload_n hx hb dX3_takesE_268 rfl (lv_at hl 1 rfl) ?_
                refine r_getq B hM 22 hL.1 rfl (by decide) rfl rfl (hL.2 22 _ _ rfl).1 q1404 dX3_takesE_269 ?_
                refine lv_iload_n hx hb dX3_takesE_272 rfl (lv_at hl 2 rfl) ?_
                refine lv_iload hx hb dX3_takesE_273 (lv_at hl 0 rfl) ?_
                refine k_pe (v := rankT v_15) (r_S (As := [.int v_15]) (rest := [.int (nI m.p), .ref (ay 22)]) B hM (ok_rank v_15) cal_X3_rank q1773 rfl hl.1 (Nat.le_of_ble_eq_true rfl) dX3_takesE_275 ⟨Nat.le_of_ble_eq_true rfl, Nat.le_of_ble_eq_true rfl⟩ ⟨Nat.le_of_ble_eq_true rfl, Nat.le_of_ble_eq_true rfl⟩) hM (fun H locs hM => ?_)
                refine lv_iconst (v := 3) hx hb dX3_takesE_278 (by decide) ?_
                refine lv_icmp_eq (tgt := 300) hx hb dX3_takesE_279 (by decide) (fun cZ => absurd cZ c254) (fun c279 => ?_)
                refine lv_iload hx hb dX3_takesE_282 (lv_at hl 0 rfl) ?_
                refine k_pe (v := rankT v_15) (r_S (As := [.int v_15]) (rest := [.int (nI m.p), .ref (ay 22)]) B hM (ok_rank v_15) cal_X3_rank q1773 rfl hl.1 (Nat.le_of_ble_eq_true rfl) dX3_takesE_284 ⟨Nat.le_of_ble_eq_true rfl, Nat.le_of_ble_eq_true rfl⟩ ⟨Nat.le_of_ble_eq_true rfl, Nat.le_of_ble_eq_true rfl⟩) hM (fun H locs hM => ?_)
                refine lv_iconst (v := 3) hx hb dX3_takesE_287 (by decide) ?_
                refine lv_icmp_le (tgt := 304) hx hb dX3_takesE_288 (by decide) (fun c288 => ?_) (fun c288 => ?_)
                · refine lv_iconst (v := 0) hx hb dX3_takesE_304 (by decide) ?_
                  refine r_zst B hM m.p (hL.2 22 _ _ rfl).2 rfl (by omega) (by decide) dX3_takesE_305 (fun ka_16 H locs eka_16 hM => ?_)
                  have hB_16 : But [1017, 1020, 1022, 1099] ka ka_16 := But.trans hbu (by rw [eka_16]; exact But.up (by decide))
                  refine lv_aload_n hx hb dX3_takesE_306 rfl (lv_at hl 1 rfl) ?_
                  refine lv_iload hx hb dX3_takesE_307 (lv_at hl 0 rfl) ?_
                  refine k_pe (v := rankT v_15) (r_S (As := [.int v_15]) (rest := [.ref y0]) B hM (ok_rank v_15) cal_X3_rank q1773 rfl hl.1 (Nat.le_of_ble_eq_true rfl) dX3_takesE_309 ⟨Nat.le_of_ble_eq_true rfl, Nat.le_of_ble_eq_true rfl⟩ ⟨Nat.le_of_ble_eq_true rfl, Nat.le_of_ble_eq_true rfl⟩) hM (fun H locs hM => ?_)
                  refine k_v (r_V (As := [.int (rankT v_15)]) (rest := []) B hM hL.1 rfl rfl (ok_settle hL (Y0 := m.Y) (Z0 := m.Z) (by omega) (by rw [eka_16, up2_a _ _ _ (by decide)]; exact hw) (by rw [eka_16, up2_a _ _ _ (by decide)]; exact hc) (by rw [eka_16, up2_a _ _ _ (by decide)]; exact hst) (by rw [eka_16, up2_a _ _ _ (by decide)]; exact hcd) (rankT v_15)) cal_X3_settle q1769 rfl hl.1 (Nat.le_of_ble_eq_true rfl) dX3_takesE_312 ⟨Nat.le_of_ble_eq_true rfl, Nat.le_of_ble_eq_true rfl⟩ ⟨Nat.le_of_ble_eq_true rfl, Nat.le_of_ble_eq_true rfl⟩) hM (fun ka_17 H locs p_18 hM => ?_)
                  obtain ⟨hu1, hu2, hu3, hu4, hu5⟩ := p_18
                  have hlS := setl_len (k := rankT v_15) (W := m.Y) (C := m.Z)
                  have hsS := setl_stk (k := rankT v_15) (C := m.Z) hst
                  have hoS := cntO_setl (k := rankT v_15) (W := m.Y) (C := m.Z)
                  obtain ⟨Y1, Z1, hS⟩ : ∃ Y1 Z1, setl (rankT v_15) m.Y m.Z = (Y1, Z1) := ⟨_, _, rfl⟩
                  rw [hS] at hu3 hu4 hu5 hlS hsS hoS
                  simp only [] at hu3 hu4 hu5 hlS hsS hoS
                  have hB_17 : But [1017, 1020, 1022, 1099] ka ka_17 := But.trans hB_16 (But.mono hu1 (by decide))
                  refine lv_aload_n hx hb dX3_takesE_315 rfl (lv_at hl 1 rfl) ?_
                  refine r_getq B hM 20 hL.1 rfl (by decide) rfl rfl (hL.2 20 _ _ rfl).1 q1402 dX3_takesE_316 ?_
                  refine lv_aload_n hx hb dX3_takesE_319 rfl (lv_at hl 1 rfl) ?_
                  refine r_geti B hM 21 hL.1 rfl (by decide) rfl rfl q1403 dX3_takesE_320 ?_
                  refine lv_iload hx hb dX3_takesE_323 (lv_at hl 0 rfl) ?_
                  refine r_ist B hM Y1.length (hL.2 20 _ _ rfl).2 (by rw [hu3]) (by omega) (by decide) dX3_takesE_325 (fun ka_19 H locs eka_19 hM => ?_)
                  have hB_19 : But [1017, 1020, 1022, 1099] ka ka_19 := But.trans hB_17 (by rw [eka_19]; exact But.up (by decide))
                  refine lv_aload_n hx hb dX3_takesE_326 rfl (lv_at hl 1 rfl) ?_
                  refine lv_dup hx hb dX3_takesE_327 rfl ?_
                  refine r_geti B hM 21 hL.1 rfl (by decide) rfl rfl q1403 dX3_takesE_328 ?_
                  refine r_topv (v := ka_17 1099 21) (by rw [eka_19, up2_a _ _ _ (by decide)]) ?_
                  refine lv_iconst (v := 1) hx hb dX3_takesE_331 (by decide) ?_
                  refine lv_iadd hx hb dX3_takesE_332 ?_
                  refine r_topv (v := nI (Y1.length + 1)) (by rw [hu3]; exact nI_1 _) ?_
                  refine r_puti B hM 21 hL.1 rfl (by decide) rfl rfl q1403 dX3_takesE_333 (fun ka_20 H locs eka_20 hM => ?_)
                  have hB_20 : But [1017, 1020, 1022, 1099] ka ka_20 := But.trans hB_19 (by rw [eka_20]; exact But.up (by decide))
                  refine lv_iconst (v := 1) hx hb dX3_takesE_336 (by decide) ?_
                  refine lv_istore_n (lv' := [(3, .int 1), (4, .int v_15), (0, .ref y0), (1, .int (nI m.p)), (2, .int (nI m.q))]) hx hb dX3_takesE_337 rfl hl (by decide) rfl (fun ls hl => ?_)
                  have hf1 : ∀ j, j ≠ 18 → j ≠ 19 → j ≠ 21 → ka_20 1099 j = m.g j := fun j h1 h2 h3 => by rw [eka_20, up2_i _ _ _ _ h3, eka_19, up2_a _ _ _ (by decide), hu2 j h1 h3, eka_16, up2_a _ _ _ (by decide)]; exact hg j h1 h2 h3
                  have hw1 : ka_20 1099 21 = nI (v_15 :: Y1).length := by rw [eka_20, up2_s]; rfl
                  have hc1 : ka_20 1099 18 = nI (Z1).length := by rw [eka_20, up2_i _ _ _ _ (by decide), eka_19, up2_a _ _ _ (by decide)]; exact hu4
                  have ha1 : ka_20 1099 19 = m.a := by rw [eka_20, up2_i _ _ _ _ (by decide), eka_19, up2_a _ _ _ (by decide), hu2 19 (by decide) (by decide), eka_16, up2_a _ _ _ (by decide)]; exact hat
                  have hst1 : Stk (ka_20 1020) (v_15 :: Y1) := by rw [eka_20, up2_a _ _ _ (by decide), eka_19, up2_row, hu1 1020 (by decide), eka_16, up2_a _ _ _ (by decide)]; exact hsS.push _
                  have hcd1 : Stk (ka_20 1017) (Z1) := by rw [eka_20, up2_a _ _ _ (by decide), eka_19, up2_a _ _ _ (by decide)]; exact hu5
                  have hT1 : ∀ j, j ≤ m.p → ka_20 1022 j = (rw1 m.T m.p 0) j := fun j hj => by rw [eka_20, up2_a _ _ _ (by decide), eka_19, up2_a _ _ _ (by decide), hu1 1022 (by decide), eka_16, up2_row]; by_cases q : j = m.p; (subst q; rw [rw1_s, va_up_self]; rfl); (rw [rw1_n _ q, va_up_ne _ _ q]; exact hT j hj)
                  refine lv_aload_n hx hb dX3_takesE_338 rfl (lv_at hl 2 rfl) ?_
                  refine k_v (r_V (As := []) (rest := []) B hM hL.1 rfl rfl (ok_go hL hn96 (n := n) ((hf1 8 (by decide) (by decide) (by decide)).trans h8) (x := x) hxn ((hf1 9 (by decide) (by decide) (by decide)).trans h9)) cal_X3_go q1741 rfl hl.1 (Nat.le_of_ble_eq_true rfl) dX3_takesE_339 ⟨Nat.le_of_ble_eq_true rfl, Nat.le_of_ble_eq_true rfl⟩ ⟨Nat.le_of_ble_eq_true rfl, Nat.le_of_ble_eq_true rfl⟩) hM (fun ka_21 H locs p_22 hM => ?_)
                  have ego := p_22
                  rw [hB_20 1007 (by decide)] at ego
                  have hq : But [1099] ka_20 ka_21 := by rw [ego]; exact fun a ha => up1_a _ _ (fun z => ha (List.mem_singleton.mpr z))
                  have hB_21 : But [1017, 1020, 1022, 1099] ka ka_21 := But.trans hB_20 (But.mono hq (by decide))
                  have hg2 : ∀ j, j ≠ 18 → j ≠ 19 → j ≠ 21 → ka_21 1099 j = goF (ka 1007) m.g j := fun j h1 h2 h3 => by rw [ego, up1_s]; exact goF_congr (hf1 8 (by decide) (by decide) (by decide)) (hf1 9 (by decide) (by decide) (by decide)) (hf1 13 (by decide) (by decide) (by decide)) (hf1 j h1 h2 h3)
                  have hw2 : ka_21 1099 21 = nI (v_15 :: Y1).length := by rw [ego, up1_s, goF_keep (by omega)]; exact hw1
                  have hc2 : ka_21 1099 18 = nI (Z1).length := by rw [ego, up1_s, goF_keep (by omega)]; exact hc1
                  have ha2 : ka_21 1099 19 = m.a := by rw [ego, up1_s, goF_keep (by omega)]; exact ha1
                  have hst2 : Stk (ka_21 1020) (v_15 :: Y1) := by rw [ego, up1_a _ _ (by decide)]; exact hst1
                  have hcd2 : Stk (ka_21 1017) (Z1) := by rw [ego, up1_a _ _ (by decide)]; exact hcd1
                  have hT2 : ∀ j, j ≤ m.p → ka_21 1022 j = (rw1 m.T m.p 0) j := by rw [ego, up1_a _ _ (by decide)]; exact hT1
                  obtain ⟨f2, x2, hA1, hA2, hA3, hA4, hA5, hA6⟩ := goF_adv (tp := ka 1007) hn96 h8 h9 hxn
                  refine lv_goto (tgt := 28) hx hb dX3_takesE_342 (by decide) ?_
                  exact ih_loop k1 (⟨goF (ka 1007) m.g, 1, m.p, m.q, v_15 :: Y1, Z1, rw1 m.T m.p 0, m.a⟩) f2 x2 ka_21 (by omega) (by omega) (by have hz := runM_more hrun (stM_sign c29 c36 hnsh (by rw [← ev_15]; exact fun z => z.elim c245 (fun z => c254 z.1)) (t := 0) (by rw [← ev_15]; exact (by rw [if_neg (fun z => z.elim c254 (fun z => absurd c288 (i_nle.mpr z.1)))]))); rw [← ev_15, hS] at hz; exact hz) hg2 (by show goF (ka 1007) m.g 8 = _; rw [goF_keep (by omega)]; exact h8) hA2 hA1 hA4 hA5 hA6 (by show (v_15 :: Y1).length + Z1.length + 1 ≤ f2; simp only [List.length_cons]; omega) hw2 hc2 ha2 hst2 hcd2 hT2 (by show cntO (v_15 :: Y1) = m.p; rw [cntO_cons, if_neg (by rw [ev_15]; exact sgnT_ne _ _), hoS]; exact hop) hp8 (Or.inr rfl) hq96 hB_21 _ _ _ (lv_sub hl [2, 3, 4, 0] rfl) hM
                · refine lv_aload_n hx hb dX3_takesE_291 rfl (lv_at hl 1 rfl) ?_
                  refine r_getq B hM 22 hL.1 rfl (by decide) rfl rfl (hL.2 22 _ _ rfl).1 q1404 dX3_takesE_292 ?_
                  refine lv_iload_n hx hb dX3_takesE_295 rfl (lv_at hl 2 rfl) ?_
                  refine r_zld B hM m.p (hL.2 22 _ _ rfl).2 rfl (by omega) (by decide) dX3_takesE_296 ?_
                  refine r_topv (v := m.T m.p) (hT _ (Nat.le_refl _)) ?_
                  refine lv_if_eq (tgt := 304) hx hb dX3_takesE_297 (by decide) (fun c297 => ?_) (fun c297 => ?_)
                  · refine lv_iconst (v := 0) hx hb dX3_takesE_304 (by decide) ?_
                    refine r_zst B hM m.p (hL.2 22 _ _ rfl).2 rfl (by omega) (by decide) dX3_takesE_305 (fun ka_23 H locs eka_23 hM => ?_)
                    have hB_23 : But [1017, 1020, 1022, 1099] ka ka_23 := But.trans hbu (by rw [eka_23]; exact But.up (by decide))
                    refine lv_aload_n hx hb dX3_takesE_306 rfl (lv_at hl 1 rfl) ?_
                    refine lv_iload hx hb dX3_takesE_307 (lv_at hl 0 rfl) ?_
                    refine k_pe (v := rankT v_15) (r_S (As := [.int v_15]) (rest := [.ref y0]) B hM (ok_rank v_15) cal_X3_rank q1773 rfl hl.1 (Nat.le_of_ble_eq_true rfl) dX3_takesE_309 ⟨Nat.le_of_ble_eq_true rfl, Nat.le_of_ble_eq_true rfl⟩ ⟨Nat.le_of_ble_eq_true rfl, Nat.le_of_ble_eq_true rfl⟩) hM (fun H locs hM => ?_)
                    refine k_v (r_V (As := [.int (rankT v_15)]) (rest := []) B hM hL.1 rfl rfl (ok_settle hL (Y0 := m.Y) (Z0 := m.Z) (by omega) (by rw [eka_23, up2_a _ _ _ (by decide)]; exact hw) (by rw [eka_23, up2_a _ _ _ (by decide)]; exact hc) (by rw [eka_23, up2_a _ _ _ (by decide)]; exact hst) (by rw [eka_23, up2_a _ _ _ (by decide)]; exact hcd) (rankT v_15)) cal_X3_settle q1769 rfl hl.1 (Nat.le_of_ble_eq_true rfl) dX3_takesE_312 ⟨Nat.le_of_ble_eq_true rfl, Nat.le_of_ble_eq_true rfl⟩ ⟨Nat.le_of_ble_eq_true rfl, Nat.le_of_ble_eq_true rfl⟩) hM (fun ka_24 H locs p_25 hM => ?_)
                    obtain ⟨hu1, hu2, hu3, hu4, hu5⟩ := p_25
                    have hlS := setl_len (k := rankT v_15) (W := m.Y) (C := m.Z)
                    have hsS := setl_stk (k := rankT v_15) (C := m.Z) hst
                    have hoS := cntO_setl (k := rankT v_15) (W := m.Y) (C := m.Z)
                    obtain ⟨Y1, Z1, hS⟩ : ∃ Y1 Z1, setl (rankT v_15) m.Y m.Z = (Y1, Z1) := ⟨_, _, rfl⟩
                    rw [hS] at hu3 hu4 hu5 hlS hsS hoS
                    simp only [] at hu3 hu4 hu5 hlS hsS hoS
                    have hB_24 : But [1017, 1020, 1022, 1099] ka ka_24 := But.trans hB_23 (But.mono hu1 (by decide))
                    refine lv_aload_n hx hb dX3_takesE_315 rfl (lv_at hl 1 rfl) ?_
                    refine r_getq B hM 20 hL.1 rfl (by decide) rfl rfl (hL.2 20 _ _ rfl).1 q1402 dX3_takesE_316 ?_
                    refine lv_aload_n hx hb dX3_takesE_319 rfl (lv_at hl 1 rfl) ?_
                    refine r_geti B hM 21 hL.1 rfl (by decide) rfl rfl q1403 dX3_takesE_320 ?_
                    refine lv_iload hx hb dX3_takesE_323 (lv_at hl 0 rfl) ?_
                    refine r_ist B hM Y1.length (hL.2 20 _ _ rfl).2 (by rw [hu3]) (by omega) (by decide) dX3_takesE_325 (fun ka_26 H locs eka_26 hM => ?_)
                    have hB_26 : But [1017, 1020, 1022, 1099] ka ka_26 := But.trans hB_24 (by rw [eka_26]; exact But.up (by decide))
                    refine lv_aload_n hx hb dX3_takesE_326 rfl (lv_at hl 1 rfl) ?_
                    refine lv_dup hx hb dX3_takesE_327 rfl ?_
                    refine r_geti B hM 21 hL.1 rfl (by decide) rfl rfl q1403 dX3_takesE_328 ?_
                    refine r_topv (v := ka_24 1099 21) (by rw [eka_26, up2_a _ _ _ (by decide)]) ?_
                    refine lv_iconst (v := 1) hx hb dX3_takesE_331 (by decide) ?_
                    refine lv_iadd hx hb dX3_takesE_332 ?_
                    refine r_topv (v := nI (Y1.length + 1)) (by rw [hu3]; exact nI_1 _) ?_
                    refine r_puti B hM 21 hL.1 rfl (by decide) rfl rfl q1403 dX3_takesE_333 (fun ka_27 H locs eka_27 hM => ?_)
                    have hB_27 : But [1017, 1020, 1022, 1099] ka ka_27 := But.trans hB_26 (by rw [eka_27]; exact But.up (by decide))
                    refine lv_iconst (v := 1) hx hb dX3_takesE_336 (by decide) ?_
                    refine lv_istore_n (lv' := [(3, .int 1), (4, .int v_15), (0, .ref y0), (1, .int (nI m.p)), (2, .int (nI m.q))]) hx hb dX3_takesE_337 rfl hl (by decide) rfl (fun ls hl => ?_)
                    have hf1 : ∀ j, j ≠ 18 → j ≠ 19 → j ≠ 21 → ka_27 1099 j = m.g j := fun j h1 h2 h3 => by rw [eka_27, up2_i _ _ _ _ h3, eka_26, up2_a _ _ _ (by decide), hu2 j h1 h3, eka_23, up2_a _ _ _ (by decide)]; exact hg j h1 h2 h3
                    have hw1 : ka_27 1099 21 = nI (v_15 :: Y1).length := by rw [eka_27, up2_s]; rfl
                    have hc1 : ka_27 1099 18 = nI (Z1).length := by rw [eka_27, up2_i _ _ _ _ (by decide), eka_26, up2_a _ _ _ (by decide)]; exact hu4
                    have ha1 : ka_27 1099 19 = m.a := by rw [eka_27, up2_i _ _ _ _ (by decide), eka_26, up2_a _ _ _ (by decide), hu2 19 (by decide) (by decide), eka_23, up2_a _ _ _ (by decide)]; exact hat
                    have hst1 : Stk (ka_27 1020) (v_15 :: Y1) := by rw [eka_27, up2_a _ _ _ (by decide), eka_26, up2_row, hu1 1020 (by decide), eka_23, up2_a _ _ _ (by decide)]; exact hsS.push _
                    have hcd1 : Stk (ka_27 1017) (Z1) := by rw [eka_27, up2_a _ _ _ (by decide), eka_26, up2_a _ _ _ (by decide)]; exact hu5
                    have hT1 : ∀ j, j ≤ m.p → ka_27 1022 j = (rw1 m.T m.p 0) j := fun j hj => by rw [eka_27, up2_a _ _ _ (by decide), eka_26, up2_a _ _ _ (by decide), hu1 1022 (by decide), eka_23, up2_row]; by_cases q : j = m.p; (subst q; rw [rw1_s, va_up_self]; rfl); (rw [rw1_n _ q, va_up_ne _ _ q]; exact hT j hj)
                    refine lv_aload_n hx hb dX3_takesE_338 rfl (lv_at hl 2 rfl) ?_
                    refine k_v (r_V (As := []) (rest := []) B hM hL.1 rfl rfl (ok_go hL hn96 (n := n) ((hf1 8 (by decide) (by decide) (by decide)).trans h8) (x := x) hxn ((hf1 9 (by decide) (by decide) (by decide)).trans h9)) cal_X3_go q1741 rfl hl.1 (Nat.le_of_ble_eq_true rfl) dX3_takesE_339 ⟨Nat.le_of_ble_eq_true rfl, Nat.le_of_ble_eq_true rfl⟩ ⟨Nat.le_of_ble_eq_true rfl, Nat.le_of_ble_eq_true rfl⟩) hM (fun ka_28 H locs p_29 hM => ?_)
                    have ego := p_29
                    rw [hB_27 1007 (by decide)] at ego
                    have hq : But [1099] ka_27 ka_28 := by rw [ego]; exact fun a ha => up1_a _ _ (fun z => ha (List.mem_singleton.mpr z))
                    have hB_28 : But [1017, 1020, 1022, 1099] ka ka_28 := But.trans hB_27 (But.mono hq (by decide))
                    have hg2 : ∀ j, j ≠ 18 → j ≠ 19 → j ≠ 21 → ka_28 1099 j = goF (ka 1007) m.g j := fun j h1 h2 h3 => by rw [ego, up1_s]; exact goF_congr (hf1 8 (by decide) (by decide) (by decide)) (hf1 9 (by decide) (by decide) (by decide)) (hf1 13 (by decide) (by decide) (by decide)) (hf1 j h1 h2 h3)
                    have hw2 : ka_28 1099 21 = nI (v_15 :: Y1).length := by rw [ego, up1_s, goF_keep (by omega)]; exact hw1
                    have hc2 : ka_28 1099 18 = nI (Z1).length := by rw [ego, up1_s, goF_keep (by omega)]; exact hc1
                    have ha2 : ka_28 1099 19 = m.a := by rw [ego, up1_s, goF_keep (by omega)]; exact ha1
                    have hst2 : Stk (ka_28 1020) (v_15 :: Y1) := by rw [ego, up1_a _ _ (by decide)]; exact hst1
                    have hcd2 : Stk (ka_28 1017) (Z1) := by rw [ego, up1_a _ _ (by decide)]; exact hcd1
                    have hT2 : ∀ j, j ≤ m.p → ka_28 1022 j = (rw1 m.T m.p 0) j := by rw [ego, up1_a _ _ (by decide)]; exact hT1
                    obtain ⟨f2, x2, hA1, hA2, hA3, hA4, hA5, hA6⟩ := goF_adv (tp := ka 1007) hn96 h8 h9 hxn
                    refine lv_goto (tgt := 28) hx hb dX3_takesE_342 (by decide) ?_
                    exact ih_loop k1 (⟨goF (ka 1007) m.g, 1, m.p, m.q, v_15 :: Y1, Z1, rw1 m.T m.p 0, m.a⟩) f2 x2 ka_28 (by omega) (by omega) (by have hz := runM_more hrun (stM_sign c29 c36 hnsh (by rw [← ev_15]; exact fun z => z.elim c245 (fun z => c254 z.1)) (t := 0) (by rw [← ev_15]; exact (by rw [if_neg (fun z => z.elim c254 (fun z => z.2 c297))]))); rw [← ev_15, hS] at hz; exact hz) hg2 (by show goF (ka 1007) m.g 8 = _; rw [goF_keep (by omega)]; exact h8) hA2 hA1 hA4 hA5 hA6 (by show (v_15 :: Y1).length + Z1.length + 1 ≤ f2; simp only [List.length_cons]; omega) hw2 hc2 ha2 hst2 hcd2 hT2 (by show cntO (v_15 :: Y1) = m.p; rw [cntO_cons, if_neg (by rw [ev_15]; exact sgnT_ne _ _), hoS]; exact hop) hp8 (Or.inr rfl) hq96 hB_28 _ _ _ (lv_sub hl [2, 3, 4, 0] rfl) hM
                  · refine lv_iconst (v := 1) hx hb dX3_takesE_300 (by decide) ?_
                    refine lv_goto (tgt := 305) hx hb dX3_takesE_301 (by decide) ?_
                    refine r_zst B hM m.p (hL.2 22 _ _ rfl).2 rfl (by omega) (by decide) dX3_takesE_305 (fun ka_30 H locs eka_30 hM => ?_)
                    have hB_30 : But [1017, 1020, 1022, 1099] ka ka_30 := But.trans hbu (by rw [eka_30]; exact But.up (by decide))
                    refine lv_aload_n hx hb dX3_takesE_306 rfl (lv_at hl 1 rfl) ?_
                    refine lv_iload hx hb dX3_takesE_307 (lv_at hl 0 rfl) ?_
                    refine k_pe (v := rankT v_15) (r_S (As := [.int v_15]) (rest := [.ref y0]) B hM (ok_rank v_15) cal_X3_rank q1773 rfl hl.1 (Nat.le_of_ble_eq_true rfl) dX3_takesE_309 ⟨Nat.le_of_ble_eq_true rfl, Nat.le_of_ble_eq_true rfl⟩ ⟨Nat.le_of_ble_eq_true rfl, Nat.le_of_ble_eq_true rfl⟩) hM (fun H locs hM => ?_)
                    refine k_v (r_V (As := [.int (rankT v_15)]) (rest := []) B hM hL.1 rfl rfl (ok_settle hL (Y0 := m.Y) (Z0 := m.Z) (by omega) (by rw [eka_30, up2_a _ _ _ (by decide)]; exact hw) (by rw [eka_30, up2_a _ _ _ (by decide)]; exact hc) (by rw [eka_30, up2_a _ _ _ (by decide)]; exact hst) (by rw [eka_30, up2_a _ _ _ (by decide)]; exact hcd) (rankT v_15)) cal_X3_settle q1769 rfl hl.1 (Nat.le_of_ble_eq_true rfl) dX3_takesE_312 ⟨Nat.le_of_ble_eq_true rfl, Nat.le_of_ble_eq_true rfl⟩ ⟨Nat.le_of_ble_eq_true rfl, Nat.le_of_ble_eq_true rfl⟩) hM (fun ka_31 H locs p_32 hM => ?_)
                    obtain ⟨hu1, hu2, hu3, hu4, hu5⟩ := p_32
                    have hlS := setl_len (k := rankT v_15) (W := m.Y) (C := m.Z)
                    have hsS := setl_stk (k := rankT v_15) (C := m.Z) hst
                    have hoS := cntO_setl (k := rankT v_15) (W := m.Y) (C := m.Z)
                    obtain ⟨Y1, Z1, hS⟩ : ∃ Y1 Z1, setl (rankT v_15) m.Y m.Z = (Y1, Z1) := ⟨_, _, rfl⟩
                    rw [hS] at hu3 hu4 hu5 hlS hsS hoS
                    simp only [] at hu3 hu4 hu5 hlS hsS hoS
                    have hB_31 : But [1017, 1020, 1022, 1099] ka ka_31 := But.trans hB_30 (But.mono hu1 (by decide))
                    refine lv_aload_n hx hb dX3_takesE_315 rfl (lv_at hl 1 rfl) ?_
                    refine r_getq B hM 20 hL.1 rfl (by decide) rfl rfl (hL.2 20 _ _ rfl).1 q1402 dX3_takesE_316 ?_
                    refine lv_aload_n hx hb dX3_takesE_319 rfl (lv_at hl 1 rfl) ?_
                    refine r_geti B hM 21 hL.1 rfl (by decide) rfl rfl q1403 dX3_takesE_320 ?_
                    refine lv_iload hx hb dX3_takesE_323 (lv_at hl 0 rfl) ?_
                    refine r_ist B hM Y1.length (hL.2 20 _ _ rfl).2 (by rw [hu3]) (by omega) (by decide) dX3_takesE_325 (fun ka_33 H locs eka_33 hM => ?_)
                    have hB_33 : But [1017, 1020, 1022, 1099] ka ka_33 := But.trans hB_31 (by rw [eka_33]; exact But.up (by decide))
                    refine lv_aload_n hx hb dX3_takesE_326 rfl (lv_at hl 1 rfl) ?_
                    refine lv_dup hx hb dX3_takesE_327 rfl ?_
                    refine r_geti B hM 21 hL.1 rfl (by decide) rfl rfl q1403 dX3_takesE_328 ?_
                    refine r_topv (v := ka_31 1099 21) (by rw [eka_33, up2_a _ _ _ (by decide)]) ?_
                    refine lv_iconst (v := 1) hx hb dX3_takesE_331 (by decide) ?_
                    refine lv_iadd hx hb dX3_takesE_332 ?_
                    refine r_topv (v := nI (Y1.length + 1)) (by rw [hu3]; exact nI_1 _) ?_
                    refine r_puti B hM 21 hL.1 rfl (by decide) rfl rfl q1403 dX3_takesE_333 (fun ka_34 H locs eka_34 hM => ?_)
                    have hB_34 : But [1017, 1020, 1022, 1099] ka ka_34 := But.trans hB_33 (by rw [eka_34]; exact But.up (by decide))
                    refine lv_iconst (v := 1) hx hb dX3_takesE_336 (by decide) ?_
                    refine lv_istore_n (lv' := [(3, .int 1), (4, .int v_15), (0, .ref y0), (1, .int (nI m.p)), (2, .int (nI m.q))]) hx hb dX3_takesE_337 rfl hl (by decide) rfl (fun ls hl => ?_)
                    have hf1 : ∀ j, j ≠ 18 → j ≠ 19 → j ≠ 21 → ka_34 1099 j = m.g j := fun j h1 h2 h3 => by rw [eka_34, up2_i _ _ _ _ h3, eka_33, up2_a _ _ _ (by decide), hu2 j h1 h3, eka_30, up2_a _ _ _ (by decide)]; exact hg j h1 h2 h3
                    have hw1 : ka_34 1099 21 = nI (v_15 :: Y1).length := by rw [eka_34, up2_s]; rfl
                    have hc1 : ka_34 1099 18 = nI (Z1).length := by rw [eka_34, up2_i _ _ _ _ (by decide), eka_33, up2_a _ _ _ (by decide)]; exact hu4
                    have ha1 : ka_34 1099 19 = m.a := by rw [eka_34, up2_i _ _ _ _ (by decide), eka_33, up2_a _ _ _ (by decide), hu2 19 (by decide) (by decide), eka_30, up2_a _ _ _ (by decide)]; exact hat
                    have hst1 : Stk (ka_34 1020) (v_15 :: Y1) := by rw [eka_34, up2_a _ _ _ (by decide), eka_33, up2_row, hu1 1020 (by decide), eka_30, up2_a _ _ _ (by decide)]; exact hsS.push _
                    have hcd1 : Stk (ka_34 1017) (Z1) := by rw [eka_34, up2_a _ _ _ (by decide), eka_33, up2_a _ _ _ (by decide)]; exact hu5
                    have hT1 : ∀ j, j ≤ m.p → ka_34 1022 j = (rw1 m.T m.p 1) j := fun j hj => by rw [eka_34, up2_a _ _ _ (by decide), eka_33, up2_a _ _ _ (by decide), hu1 1022 (by decide), eka_30, up2_row]; by_cases q : j = m.p; (subst q; rw [rw1_s, va_up_self]; rfl); (rw [rw1_n _ q, va_up_ne _ _ q]; exact hT j hj)
                    refine lv_aload_n hx hb dX3_takesE_338 rfl (lv_at hl 2 rfl) ?_
                    refine k_v (r_V (As := []) (rest := []) B hM hL.1 rfl rfl (ok_go hL hn96 (n := n) ((hf1 8 (by decide) (by decide) (by decide)).trans h8) (x := x) hxn ((hf1 9 (by decide) (by decide) (by decide)).trans h9)) cal_X3_go q1741 rfl hl.1 (Nat.le_of_ble_eq_true rfl) dX3_takesE_339 ⟨Nat.le_of_ble_eq_true rfl, Nat.le_of_ble_eq_true rfl⟩ ⟨Nat.le_of_ble_eq_true rfl, Nat.le_of_ble_eq_true rfl⟩) hM (fun ka_35 H locs p_36 hM => ?_)
                    have ego := p_36
                    rw [hB_34 1007 (by decide)] at ego
                    have hq : But [1099] ka_34 ka_35 := by rw [ego]; exact fun a ha => up1_a _ _ (fun z => ha (List.mem_singleton.mpr z))
                    have hB_35 : But [1017, 1020, 1022, 1099] ka ka_35 := But.trans hB_34 (But.mono hq (by decide))
                    have hg2 : ∀ j, j ≠ 18 → j ≠ 19 → j ≠ 21 → ka_35 1099 j = goF (ka 1007) m.g j := fun j h1 h2 h3 => by rw [ego, up1_s]; exact goF_congr (hf1 8 (by decide) (by decide) (by decide)) (hf1 9 (by decide) (by decide) (by decide)) (hf1 13 (by decide) (by decide) (by decide)) (hf1 j h1 h2 h3)
                    have hw2 : ka_35 1099 21 = nI (v_15 :: Y1).length := by rw [ego, up1_s, goF_keep (by omega)]; exact hw1
                    have hc2 : ka_35 1099 18 = nI (Z1).length := by rw [ego, up1_s, goF_keep (by omega)]; exact hc1
                    have ha2 : ka_35 1099 19 = m.a := by rw [ego, up1_s, goF_keep (by omega)]; exact ha1
                    have hst2 : Stk (ka_35 1020) (v_15 :: Y1) := by rw [ego, up1_a _ _ (by decide)]; exact hst1
                    have hcd2 : Stk (ka_35 1017) (Z1) := by rw [ego, up1_a _ _ (by decide)]; exact hcd1
                    have hT2 : ∀ j, j ≤ m.p → ka_35 1022 j = (rw1 m.T m.p 1) j := by rw [ego, up1_a _ _ (by decide)]; exact hT1
                    obtain ⟨f2, x2, hA1, hA2, hA3, hA4, hA5, hA6⟩ := goF_adv (tp := ka 1007) hn96 h8 h9 hxn
                    refine lv_goto (tgt := 28) hx hb dX3_takesE_342 (by decide) ?_
                    exact ih_loop k1 (⟨goF (ka 1007) m.g, 1, m.p, m.q, v_15 :: Y1, Z1, rw1 m.T m.p 1, m.a⟩) f2 x2 ka_35 (by omega) (by omega) (by have hz := runM_more hrun (stM_sign c29 c36 hnsh (by rw [← ev_15]; exact fun z => z.elim c245 (fun z => c254 z.1)) (t := 1) (by rw [← ev_15]; exact (by rw [if_pos (Or.inr ⟨i_nle.mp c288, c297⟩)]))); rw [← ev_15, hS] at hz; exact hz) hg2 (by show goF (ka 1007) m.g 8 = _; rw [goF_keep (by omega)]; exact h8) hA2 hA1 hA4 hA5 hA6 (by show (v_15 :: Y1).length + Z1.length + 1 ≤ f2; simp only [List.length_cons]; omega) hw2 hc2 ha2 hst2 hcd2 hT2 (by show cntO (v_15 :: Y1) = m.p; rw [cntO_cons, if_neg (by rw [ev_15]; exact sgnT_ne _ _), hoS]; exact hop) hp8 (Or.inr rfl) hq96 hB_35 _ _ _ (lv_sub hl [2, 3, 4, 0] rfl) hM
              · refine lv_aload_n hx hb dX3_takesE_257 rfl (lv_at hl 1 rfl) ?_
                refine r_getq B hM 22 hL.1 rfl (by decide) rfl rfl (hL.2 22 _ _ rfl).1 q1404 dX3_takesE_258 ?_
                refine lv_iload_n hx hb dX3_takesE_261 rfl (lv_at hl 2 rfl) ?_
                refine r_zld B hM m.p (hL.2 22 _ _ rfl).2 rfl (by omega) (by decide) dX3_takesE_262 ?_
                refine r_topv (v := m.T m.p) (hT _ (Nat.le_refl _)) ?_
                refine lv_if_eq (tgt := 268) hx hb dX3_takesE_263 (by decide) (fun c263 => ?_) (fun c263 => ?_)
                · refine lv_aload_n hx hb dX3_takesE_268 rfl (lv_at hl 1 rfl) ?_
                  refine r_getq B hM 22 hL.1 rfl (by decide) rfl rfl (hL.2 22 _ _ rfl).1 q1404 dX3_takesE_269 ?_
                  refine lv_iload_n hx hb dX3_takesE_272 rfl (lv_at hl 2 rfl) ?_
                  refine lv_iload hx hb dX3_takesE_273 (lv_at hl 0 rfl) ?_
                  refine k_pe (v := rankT v_15) (r_S (As := [.int v_15]) (rest := [.int (nI m.p), .ref (ay 22)]) B hM (ok_rank v_15) cal_X3_rank q1773 rfl hl.1 (Nat.le_of_ble_eq_true rfl) dX3_takesE_275 ⟨Nat.le_of_ble_eq_true rfl, Nat.le_of_ble_eq_true rfl⟩ ⟨Nat.le_of_ble_eq_true rfl, Nat.le_of_ble_eq_true rfl⟩) hM (fun H locs hM => ?_)
                  refine lv_iconst (v := 3) hx hb dX3_takesE_278 (by decide) ?_
                  refine lv_icmp_eq (tgt := 300) hx hb dX3_takesE_279 (by decide) (fun c279 => ?_) (fun cZ => absurd c254 cZ)
                  refine lv_iconst (v := 1) hx hb dX3_takesE_300 (by decide) ?_
                  refine lv_goto (tgt := 305) hx hb dX3_takesE_301 (by decide) ?_
                  refine r_zst B hM m.p (hL.2 22 _ _ rfl).2 rfl (by omega) (by decide) dX3_takesE_305 (fun ka_37 H locs eka_37 hM => ?_)
                  have hB_37 : But [1017, 1020, 1022, 1099] ka ka_37 := But.trans hbu (by rw [eka_37]; exact But.up (by decide))
                  refine lv_aload_n hx hb dX3_takesE_306 rfl (lv_at hl 1 rfl) ?_
                  refine lv_iload hx hb dX3_takesE_307 (lv_at hl 0 rfl) ?_
                  refine k_pe (v := rankT v_15) (r_S (As := [.int v_15]) (rest := [.ref y0]) B hM (ok_rank v_15) cal_X3_rank q1773 rfl hl.1 (Nat.le_of_ble_eq_true rfl) dX3_takesE_309 ⟨Nat.le_of_ble_eq_true rfl, Nat.le_of_ble_eq_true rfl⟩ ⟨Nat.le_of_ble_eq_true rfl, Nat.le_of_ble_eq_true rfl⟩) hM (fun H locs hM => ?_)
                  refine k_v (r_V (As := [.int (rankT v_15)]) (rest := []) B hM hL.1 rfl rfl (ok_settle hL (Y0 := m.Y) (Z0 := m.Z) (by omega) (by rw [eka_37, up2_a _ _ _ (by decide)]; exact hw) (by rw [eka_37, up2_a _ _ _ (by decide)]; exact hc) (by rw [eka_37, up2_a _ _ _ (by decide)]; exact hst) (by rw [eka_37, up2_a _ _ _ (by decide)]; exact hcd) (rankT v_15)) cal_X3_settle q1769 rfl hl.1 (Nat.le_of_ble_eq_true rfl) dX3_takesE_312 ⟨Nat.le_of_ble_eq_true rfl, Nat.le_of_ble_eq_true rfl⟩ ⟨Nat.le_of_ble_eq_true rfl, Nat.le_of_ble_eq_true rfl⟩) hM (fun ka_38 H locs p_39 hM => ?_)
                  obtain ⟨hu1, hu2, hu3, hu4, hu5⟩ := p_39
                  have hlS := setl_len (k := rankT v_15) (W := m.Y) (C := m.Z)
                  have hsS := setl_stk (k := rankT v_15) (C := m.Z) hst
                  have hoS := cntO_setl (k := rankT v_15) (W := m.Y) (C := m.Z)
                  obtain ⟨Y1, Z1, hS⟩ : ∃ Y1 Z1, setl (rankT v_15) m.Y m.Z = (Y1, Z1) := ⟨_, _, rfl⟩
                  rw [hS] at hu3 hu4 hu5 hlS hsS hoS
                  simp only [] at hu3 hu4 hu5 hlS hsS hoS
                  have hB_38 : But [1017, 1020, 1022, 1099] ka ka_38 := But.trans hB_37 (But.mono hu1 (by decide))
                  refine lv_aload_n hx hb dX3_takesE_315 rfl (lv_at hl 1 rfl) ?_
                  refine r_getq B hM 20 hL.1 rfl (by decide) rfl rfl (hL.2 20 _ _ rfl).1 q1402 dX3_takesE_316 ?_
                  refine lv_aload_n hx hb dX3_takesE_319 rfl (lv_at hl 1 rfl) ?_
                  refine r_geti B hM 21 hL.1 rfl (by decide) rfl rfl q1403 dX3_takesE_320 ?_
                  refine lv_iload hx hb dX3_takesE_323 (lv_at hl 0 rfl) ?_
                  refine r_ist B hM Y1.length (hL.2 20 _ _ rfl).2 (by rw [hu3]) (by omega) (by decide) dX3_takesE_325 (fun ka_40 H locs eka_40 hM => ?_)
                  have hB_40 : But [1017, 1020, 1022, 1099] ka ka_40 := But.trans hB_38 (by rw [eka_40]; exact But.up (by decide))
                  refine lv_aload_n hx hb dX3_takesE_326 rfl (lv_at hl 1 rfl) ?_
                  refine lv_dup hx hb dX3_takesE_327 rfl ?_
                  refine r_geti B hM 21 hL.1 rfl (by decide) rfl rfl q1403 dX3_takesE_328 ?_
                  refine r_topv (v := ka_38 1099 21) (by rw [eka_40, up2_a _ _ _ (by decide)]) ?_
                  refine lv_iconst (v := 1) hx hb dX3_takesE_331 (by decide) ?_
                  refine lv_iadd hx hb dX3_takesE_332 ?_
                  refine r_topv (v := nI (Y1.length + 1)) (by rw [hu3]; exact nI_1 _) ?_
                  refine r_puti B hM 21 hL.1 rfl (by decide) rfl rfl q1403 dX3_takesE_333 (fun ka_41 H locs eka_41 hM => ?_)
                  have hB_41 : But [1017, 1020, 1022, 1099] ka ka_41 := But.trans hB_40 (by rw [eka_41]; exact But.up (by decide))
                  refine lv_iconst (v := 1) hx hb dX3_takesE_336 (by decide) ?_
                  refine lv_istore_n (lv' := [(3, .int 1), (4, .int v_15), (0, .ref y0), (1, .int (nI m.p)), (2, .int (nI m.q))]) hx hb dX3_takesE_337 rfl hl (by decide) rfl (fun ls hl => ?_)
                  have hf1 : ∀ j, j ≠ 18 → j ≠ 19 → j ≠ 21 → ka_41 1099 j = m.g j := fun j h1 h2 h3 => by rw [eka_41, up2_i _ _ _ _ h3, eka_40, up2_a _ _ _ (by decide), hu2 j h1 h3, eka_37, up2_a _ _ _ (by decide)]; exact hg j h1 h2 h3
                  have hw1 : ka_41 1099 21 = nI (v_15 :: Y1).length := by rw [eka_41, up2_s]; rfl
                  have hc1 : ka_41 1099 18 = nI (Z1).length := by rw [eka_41, up2_i _ _ _ _ (by decide), eka_40, up2_a _ _ _ (by decide)]; exact hu4
                  have ha1 : ka_41 1099 19 = m.a := by rw [eka_41, up2_i _ _ _ _ (by decide), eka_40, up2_a _ _ _ (by decide), hu2 19 (by decide) (by decide), eka_37, up2_a _ _ _ (by decide)]; exact hat
                  have hst1 : Stk (ka_41 1020) (v_15 :: Y1) := by rw [eka_41, up2_a _ _ _ (by decide), eka_40, up2_row, hu1 1020 (by decide), eka_37, up2_a _ _ _ (by decide)]; exact hsS.push _
                  have hcd1 : Stk (ka_41 1017) (Z1) := by rw [eka_41, up2_a _ _ _ (by decide), eka_40, up2_a _ _ _ (by decide)]; exact hu5
                  have hT1 : ∀ j, j ≤ m.p → ka_41 1022 j = (rw1 m.T m.p 1) j := fun j hj => by rw [eka_41, up2_a _ _ _ (by decide), eka_40, up2_a _ _ _ (by decide), hu1 1022 (by decide), eka_37, up2_row]; by_cases q : j = m.p; (subst q; rw [rw1_s, va_up_self]; rfl); (rw [rw1_n _ q, va_up_ne _ _ q]; exact hT j hj)
                  refine lv_aload_n hx hb dX3_takesE_338 rfl (lv_at hl 2 rfl) ?_
                  refine k_v (r_V (As := []) (rest := []) B hM hL.1 rfl rfl (ok_go hL hn96 (n := n) ((hf1 8 (by decide) (by decide) (by decide)).trans h8) (x := x) hxn ((hf1 9 (by decide) (by decide) (by decide)).trans h9)) cal_X3_go q1741 rfl hl.1 (Nat.le_of_ble_eq_true rfl) dX3_takesE_339 ⟨Nat.le_of_ble_eq_true rfl, Nat.le_of_ble_eq_true rfl⟩ ⟨Nat.le_of_ble_eq_true rfl, Nat.le_of_ble_eq_true rfl⟩) hM (fun ka_42 H locs p_43 hM => ?_)
                  have ego := p_43
                  rw [hB_41 1007 (by decide)] at ego
                  have hq : But [1099] ka_41 ka_42 := by rw [ego]; exact fun a ha => up1_a _ _ (fun z => ha (List.mem_singleton.mpr z))
                  have hB_42 : But [1017, 1020, 1022, 1099] ka ka_42 := But.trans hB_41 (But.mono hq (by decide))
                  have hg2 : ∀ j, j ≠ 18 → j ≠ 19 → j ≠ 21 → ka_42 1099 j = goF (ka 1007) m.g j := fun j h1 h2 h3 => by rw [ego, up1_s]; exact goF_congr (hf1 8 (by decide) (by decide) (by decide)) (hf1 9 (by decide) (by decide) (by decide)) (hf1 13 (by decide) (by decide) (by decide)) (hf1 j h1 h2 h3)
                  have hw2 : ka_42 1099 21 = nI (v_15 :: Y1).length := by rw [ego, up1_s, goF_keep (by omega)]; exact hw1
                  have hc2 : ka_42 1099 18 = nI (Z1).length := by rw [ego, up1_s, goF_keep (by omega)]; exact hc1
                  have ha2 : ka_42 1099 19 = m.a := by rw [ego, up1_s, goF_keep (by omega)]; exact ha1
                  have hst2 : Stk (ka_42 1020) (v_15 :: Y1) := by rw [ego, up1_a _ _ (by decide)]; exact hst1
                  have hcd2 : Stk (ka_42 1017) (Z1) := by rw [ego, up1_a _ _ (by decide)]; exact hcd1
                  have hT2 : ∀ j, j ≤ m.p → ka_42 1022 j = (rw1 m.T m.p 1) j := by rw [ego, up1_a _ _ (by decide)]; exact hT1
                  obtain ⟨f2, x2, hA1, hA2, hA3, hA4, hA5, hA6⟩ := goF_adv (tp := ka 1007) hn96 h8 h9 hxn
                  refine lv_goto (tgt := 28) hx hb dX3_takesE_342 (by decide) ?_
                  exact ih_loop k1 (⟨goF (ka 1007) m.g, 1, m.p, m.q, v_15 :: Y1, Z1, rw1 m.T m.p 1, m.a⟩) f2 x2 ka_42 (by omega) (by omega) (by have hz := runM_more hrun (stM_sign c29 c36 hnsh (by rw [← ev_15]; exact fun z => z.elim c245 (fun z => z.2 c263)) (t := 1) (by rw [← ev_15]; exact (by rw [if_pos (Or.inl c254)]))); rw [← ev_15, hS] at hz; exact hz) hg2 (by show goF (ka 1007) m.g 8 = _; rw [goF_keep (by omega)]; exact h8) hA2 hA1 hA4 hA5 hA6 (by show (v_15 :: Y1).length + Z1.length + 1 ≤ f2; simp only [List.length_cons]; omega) hw2 hc2 ha2 hst2 hcd2 hT2 (by show cntO (v_15 :: Y1) = m.p; rw [cntO_cons, if_neg (by rw [ev_15]; exact sgnT_ne _ _), hoS]; exact hop) hp8 (Or.inr rfl) hq96 hB_42 _ _ _ (lv_sub hl [2, 3, 4, 0] rfl) hM
                · refine lv_iconst (v := 0) hx hb dX3_takesE_266 (by decide) ?_
                  refine r_zret B hr hM dX3_takesE_267 (Or.inl rfl) ?_
                  have hz := runM_end hrun (stM_sno c29 c36 hnsh (Or.inr ⟨by rw [← ev_15]; exact c254, c263⟩))
                  subst hz
                  exact ⟨hbu, hg, Or.inr ⟨rfl, _, rfl⟩⟩
          refine lv_aload_n hx hb dX3_takesE_180 rfl (lv_at hl 0 rfl) ?_
          refine r_geti B hM 11 hL.1 rfl (by decide) rfl rfl q1393 dX3_takesE_181 ?_
          refine r_topv (v := m.g 11) (hg 11 (by decide) (by decide) (by decide)) ?_
          refine lv_iconst (v := 3) hx hb dX3_takesE_184 (by decide) ?_
          refine lv_icmp_ne (tgt := 237) hx hb dX3_takesE_185 (by decide) (fun c185 => ?_) (fun c185 => ?_)
          · exact j237  _ _ _ (fun z => c185 z.1) (lv_sub hl [0, 1, 2, 3] rfl) hM
          · refine lv_aload_n hx hb dX3_takesE_188 rfl (lv_at hl 0 rfl) ?_
            refine r_geti B hM 12 hL.1 rfl (by decide) rfl rfl q1394 dX3_takesE_189 ?_
            refine r_topv (v := m.g 12) (hg 12 (by decide) (by decide) (by decide)) ?_
            refine lv_bipush (v := 41) hx hb dX3_takesE_192 (by decide) ?_
            refine lv_icmp_ne (tgt := 237) hx hb dX3_takesE_194 (by decide) (fun c194 => ?_) (fun c194 => ?_)
            · exact j237  _ _ _ (fun z => c194 z.2.1) (lv_sub hl [0, 1, 2, 3] rfl) hM
            · refine lv_iload_n hx hb dX3_takesE_197 rfl (lv_at hl 1 rfl) ?_
              refine lv_if_le (tgt := 237) hx hb dX3_takesE_198 (by decide) (fun c198 => ?_) (fun c198 => ?_)
              · have n198 : m.p ≤ 0 := ntLe rfl rfl (by omega) (by omega) c198
                exact j237  _ _ _ (fun z => absurd z.2.2 (by omega)) (lv_sub hl [0, 1, 2, 3] rfl) hM
              · have n198 : 0 < m.p := ntNle rfl rfl (by omega) (by omega) c198
                have hf0 : f < x := htk (by rw [c185]; decide)
                refine lv_aload_n hx hb dX3_takesE_201 rfl (lv_at hl 0 rfl) ?_
                refine lv_iconst (v := 0) hx hb dX3_takesE_202 (by decide) ?_
                refine k_v (r_V (As := [.int 0]) (rest := []) B hM hL.1 rfl rfl (ok_settle hL (Y0 := m.Y) (Z0 := m.Z) (by omega) hw hc hst hcd 0) cal_X3_settle q1769 rfl hl.1 (Nat.le_of_ble_eq_true rfl) dX3_takesE_203 ⟨Nat.le_of_ble_eq_true rfl, Nat.le_of_ble_eq_true rfl⟩ ⟨Nat.le_of_ble_eq_true rfl, Nat.le_of_ble_eq_true rfl⟩) hM (fun ka_44 H locs p_45 hM => ?_)
                obtain ⟨hu1, hu2, hu3, hu4, hu5⟩ := p_45
                have hlS := setl_len (k := 0) (W := m.Y) (C := m.Z)
                have hsS := setl_stk (k := 0) (C := m.Z) hst
                have hoS := cntO_setl (k := 0) (W := m.Y) (C := m.Z)
                obtain ⟨Y2, hY2⟩ := setl0_top (W := m.Y) (C := m.Z) (by omega)
                obtain ⟨Z1, hZ1⟩ : ∃ Z1, (setl 0 m.Y m.Z).2 = Z1 := ⟨_, rfl⟩
                rw [hY2] at hu3 hlS hsS hoS
                rw [hZ1] at hu4 hu5 hlS
                simp only [List.length_cons] at hu3 hlS
                rw [cntO_cons, if_pos rfl] at hoS
                have hB_44 : But [1017, 1020, 1022, 1099] ka ka_44 := But.trans hbu (But.mono hu1 (by decide))
                refine lv_aload_n hx hb dX3_takesE_206 rfl (lv_at hl 0 rfl) ?_
                refine lv_dup hx hb dX3_takesE_207 rfl ?_
                refine r_geti B hM 21 hL.1 rfl (by decide) rfl rfl q1403 dX3_takesE_208 ?_
                refine lv_iconst (v := 1) hx hb dX3_takesE_211 (by decide) ?_
                refine lv_isub hx hb dX3_takesE_212 ?_
                refine r_topv (v := nI Y2.length) (by rw [hu3]; exact nI_pred _) ?_
                refine r_puti B hM 21 hL.1 rfl (by decide) rfl rfl q1403 dX3_takesE_213 (fun ka_46 H locs eka_46 hM => ?_)
                have hB_46 : But [1017, 1020, 1022, 1099] ka ka_46 := But.trans hB_44 (by rw [eka_46]; exact But.up (by decide))
                obtain ⟨p1, hp1⟩ : ∃ p1, m.p = p1 + 1 := ⟨m.p - 1, by omega⟩
                rw [hp1] at hl
                refine lv_iinc (v := nI p1) (lv' := [(1, .int (nI p1)), (0, .ref y0), (2, .int (nI m.q)), (3, .int m.w)]) hx hb dX3_takesE_216 hl (k := 1) rfl (by exact pk_m1 _) (by decide) rfl (fun ls hl => ?_)
                refine lv_aload_n hx hb dX3_takesE_219 rfl (lv_at hl 1 rfl) ?_
                refine lv_bipush (v := 6) hx hb dX3_takesE_220 (by decide) ?_
                refine k_v (r_V (As := [.int 6]) (rest := []) B hM hL.1 rfl rfl (ok_settle hL (Y0 := Y2) (Z0 := Z1) (by omega) (by rw [eka_46, up2_s]) (by rw [eka_46, up2_i _ _ _ _ (by decide)]; exact hu4) (by rw [eka_46, up2_a _ _ _ (by decide), hu1 1020 (by decide)]; exact hsS.2) (by rw [eka_46, up2_a _ _ _ (by decide)]; exact hu5) 6) cal_X3_settle q1769 rfl hl.1 (Nat.le_of_ble_eq_true rfl) dX3_takesE_222 ⟨Nat.le_of_ble_eq_true rfl, Nat.le_of_ble_eq_true rfl⟩ ⟨Nat.le_of_ble_eq_true rfl, Nat.le_of_ble_eq_true rfl⟩) hM (fun ka_47 H locs p_48 hM => ?_)
                obtain ⟨hv1, hv2, hv3, hv4, hv5⟩ := p_48
                have hlV := setl_len (k := 6) (W := Y2) (C := Z1)
                have hsV := setl_stk (k := 6) (C := Z1) hsS.2
                have hoV := cntO_setl (k := 6) (W := Y2) (C := Z1)
                obtain ⟨Y3, Z3, hV⟩ : ∃ Y3 Z3, setl 6 Y2 Z1 = (Y3, Z3) := ⟨_, _, rfl⟩
                rw [hV] at hv3 hv4 hv5 hlV hsV hoV
                simp only [] at hv3 hv4 hv5 hlV hsV hoV
                have hB_47 : But [1017, 1020, 1022, 1099] ka ka_47 := But.trans hB_46 (But.mono hv1 (by decide))
                have hf1 : ∀ j, j ≠ 18 → j ≠ 19 → j ≠ 21 → ka_47 1099 j = m.g j := fun j h1 h2 h3 => by rw [hv2 j h1 h3, eka_46, up2_i _ _ _ _ h3, hu2 j h1 h3]; exact hg j h1 h2 h3
                have hw1 : ka_47 1099 21 = nI (Y3).length := by exact hv3
                have hc1 : ka_47 1099 18 = nI (Z3).length := by exact hv4
                have ha1 : ka_47 1099 19 = m.a := by rw [hv2 19 (by decide) (by decide), eka_46, up2_i _ _ _ _ (by decide), hu2 19 (by decide) (by decide)]; exact hat
                have hst1 : Stk (ka_47 1020) (Y3) := by rw [hv1 1020 (by decide), eka_46, up2_a _ _ _ (by decide), hu1 1020 (by decide)]; exact hsV
                have hcd1 : Stk (ka_47 1017) (Z3) := by exact hv5
                have hT1 : ∀ j, j ≤ p1 → ka_47 1022 j = m.T j := fun j hj => by rw [hv1 1022 (by decide), eka_46, up2_a _ _ _ (by decide), hu1 1022 (by decide)]; exact hT j (by omega)
                refine lv_aload_n hx hb dX3_takesE_225 rfl (lv_at hl 1 rfl) ?_
                refine k_pe (v := nI (cntI (ka_47 1020) (Y3).length)) (r_V (As := []) (rest := []) B hM hL.1 rfl rfl (ok_notsOpen hL (m := (Y3).length) (by have hln := hlV; (try simp only [List.length_cons] at *); omega) hw1) cal_X3_notsOpen q1776 rfl hl.1 (Nat.le_of_ble_eq_true rfl) dX3_takesE_226 ⟨Nat.le_of_ble_eq_true rfl, Nat.le_of_ble_eq_true rfl⟩ ⟨Nat.le_of_ble_eq_true rfl, Nat.le_of_ble_eq_true rfl⟩) hM (fun H locs hM => ?_)
                refine r_topv (v := nI (cntN (Y3))) (by rw [cntI_stk hst1]) ?_
                refine lv_istore_n (lv' := [(2, .int (nI (cntN (Y3)))), (1, .int (nI p1)), (0, .ref y0), (3, .int m.w)]) hx hb dX3_takesE_229 rfl hl (by decide) rfl (fun ls hl => ?_)
                refine lv_aload_n hx hb dX3_takesE_230 rfl (lv_at hl 2 rfl) ?_
                refine k_v (r_V (As := []) (rest := []) B hM hL.1 rfl rfl (ok_go hL hn96 (n := n) ((hf1 8 (by decide) (by decide) (by decide)).trans h8) (x := x) hxn ((hf1 9 (by decide) (by decide) (by decide)).trans h9)) cal_X3_go q1741 rfl hl.1 (Nat.le_of_ble_eq_true rfl) dX3_takesE_231 ⟨Nat.le_of_ble_eq_true rfl, Nat.le_of_ble_eq_true rfl⟩ ⟨Nat.le_of_ble_eq_true rfl, Nat.le_of_ble_eq_true rfl⟩) hM (fun ka_49 H locs p_50 hM => ?_)
                have ego := p_50
                rw [hB_47 1007 (by decide)] at ego
                have hq : But [1099] ka_47 ka_49 := by rw [ego]; exact fun a ha => up1_a _ _ (fun z => ha (List.mem_singleton.mpr z))
                have hB_49 : But [1017, 1020, 1022, 1099] ka ka_49 := But.trans hB_47 (But.mono hq (by decide))
                have hg2 : ∀ j, j ≠ 18 → j ≠ 19 → j ≠ 21 → ka_49 1099 j = goF (ka 1007) m.g j := fun j h1 h2 h3 => by rw [ego, up1_s]; exact goF_congr (hf1 8 (by decide) (by decide) (by decide)) (hf1 9 (by decide) (by decide) (by decide)) (hf1 13 (by decide) (by decide) (by decide)) (hf1 j h1 h2 h3)
                have hw2 : ka_49 1099 21 = nI (Y3).length := by rw [ego, up1_s, goF_keep (by omega)]; exact hw1
                have hc2 : ka_49 1099 18 = nI (Z3).length := by rw [ego, up1_s, goF_keep (by omega)]; exact hc1
                have ha2 : ka_49 1099 19 = m.a := by rw [ego, up1_s, goF_keep (by omega)]; exact ha1
                have hst2 : Stk (ka_49 1020) (Y3) := by rw [ego, up1_a _ _ (by decide)]; exact hst1
                have hcd2 : Stk (ka_49 1017) (Z3) := by rw [ego, up1_a _ _ (by decide)]; exact hcd1
                have hT2 : ∀ j, j ≤ p1 → ka_49 1022 j = m.T j := by rw [ego, up1_a _ _ (by decide)]; exact hT1
                obtain ⟨f2, x2, hA1, hA2, hA3, hA4, hA5, hA6⟩ := goF_adv (tp := ka 1007) hn96 h8 h9 hxn
                refine lv_goto (tgt := 28) hx hb dX3_takesE_234 (by decide) ?_
                exact ih_loop k1 (⟨goF (ka 1007) m.g, m.w, p1, cntN Y3, Y3, Z3, m.T, m.a⟩) f2 x2 ka_49 (by omega) (by omega) (by have hz := runM_more hrun (stM_shut c29 ⟨c185, c194, n198⟩); rw [hY2, hZ1, List.tail_cons, hV, hp1] at hz; exact hz) hg2 (by show goF (ka 1007) m.g 8 = _; rw [goF_keep (by omega)]; exact h8) hA2 hA1 hA4 hA5 hA6 (by show Y3.length + Z3.length + 1 ≤ f2; omega) hw2 hc2 ha2 hst2 hcd2 hT2 (by show cntO Y3 = p1; omega) (by show p1 ≤ 8; omega) hw01 (by have := cntN_le Y3; show cntN Y3 ≤ 96; omega) hB_49 _ _ _ (lv_sub hl [2, 1, 0, 3] rfl) hM
  refine lv_iconst (v := 0) hx hb dX3_takesE_0 (by decide) ?_
  refine lv_istore_n (lv' := [(1, .int 0), (0, .ref y0)]) hx hb dX3_takesE_1 rfl hl (by decide) rfl (fun ls hl => ?_)
  refine lv_iconst (v := 0) hx hb dX3_takesE_2 (by decide) ?_
  refine lv_istore_n (lv' := [(2, .int 0), (1, .int 0), (0, .ref y0)]) hx hb dX3_takesE_3 rfl hl (by decide) rfl (fun ls hl => ?_)
  refine lv_iconst (v := 1) hx hb dX3_takesE_4 (by decide) ?_
  refine lv_istore_n (lv' := [(3, .int 1), (2, .int 0), (1, .int 0), (0, .ref y0)]) hx hb dX3_takesE_5 rfl hl (by decide) rfl (fun ls hl => ?_)
  refine lv_aload_n hx hb dX3_takesE_6 rfl (lv_at hl 3 rfl) ?_
  refine lv_iconst (v := 0) hx hb dX3_takesE_7 (by decide) ?_
  refine r_puti B hM 18 hL.1 rfl (by decide) rfl rfl q1400 dX3_takesE_8 (fun ka_51 H locs eka_51 hM => ?_)
  have hB_51 : But [1017, 1020, 1022, 1099] ka ka_51 := But.trans But.refl (by rw [eka_51]; exact But.up (by decide))
  refine lv_aload_n hx hb dX3_takesE_11 rfl (lv_at hl 3 rfl) ?_
  refine lv_iconst (v := 0) hx hb dX3_takesE_12 (by decide) ?_
  refine r_puti B hM 19 hL.1 rfl (by decide) rfl rfl q1401 dX3_takesE_13 (fun ka_52 H locs eka_52 hM => ?_)
  have hB_52 : But [1017, 1020, 1022, 1099] ka ka_52 := But.trans hB_51 (by rw [eka_52]; exact But.up (by decide))
  refine lv_aload_n hx hb dX3_takesE_16 rfl (lv_at hl 3 rfl) ?_
  refine lv_iconst (v := 0) hx hb dX3_takesE_17 (by decide) ?_
  refine r_puti B hM 21 hL.1 rfl (by decide) rfl rfl q1403 dX3_takesE_18 (fun ka_53 H locs eka_53 hM => ?_)
  have hB_53 : But [1017, 1020, 1022, 1099] ka ka_53 := But.trans hB_52 (by rw [eka_53]; exact But.up (by decide))
  refine lv_aload_n hx hb dX3_takesE_21 rfl (lv_at hl 3 rfl) ?_
  refine r_getq B hM 22 hL.1 rfl (by decide) rfl rfl (hL.2 22 _ _ rfl).1 q1404 dX3_takesE_22 ?_
  refine lv_iconst (v := 0) hx hb dX3_takesE_25 (by decide) ?_
  refine lv_iconst (v := 0) hx hb dX3_takesE_26 (by decide) ?_
  refine r_zst B hM 0 (hL.2 22 _ _ rfl).2 rfl (by decide) (by decide) dX3_takesE_27 (fun ka_54 H locs eka_54 hM => ?_)
  have hB_54 : But [1017, 1020, 1022, 1099] ka ka_54 := But.trans hB_53 (by rw [eka_54]; exact But.up (by decide))
  exact loop (n + 2) (n + 1) (⟨ka 1099, 1, 0, 0, [], [], fun _ => 0, 0⟩) f0 x0 ka_54 (by omega) (by omega) hR0 (fun j h1 h2 h3 => by rw [eka_54, up2_a _ _ _ (by decide), eka_53, up2_i _ _ _ _ h3, eka_52, up2_i _ _ _ _ h2, eka_51, up2_i _ _ _ _ h1]) hn hx9 hf10 hfx0 hxn0 htk0 (by show 0 + 0 + 1 ≤ f0; omega) (by rw [eka_54, up2_a _ _ _ (by decide), eka_53, up2_s]; rfl) (by rw [eka_54, up2_a _ _ _ (by decide), eka_53, up2_i _ _ _ _ (by decide), eka_52, up2_i _ _ _ _ (by decide), eka_51, up2_s]; rfl) (by rw [eka_54, up2_a _ _ _ (by decide), eka_53, up2_i _ _ _ _ (by decide), eka_52, up2_s]) trivial trivial (fun j hj => by rw [show j = 0 from Nat.le_zero.mp hj, eka_54, up2_s]; rfl) rfl (by show 0 ≤ 8; omega) (Or.inr rfl) (by show 0 ≤ 96; omega) hB_54 _ _ _ (lv_sub hl [3, 2, 1, 0] rfl) hM
end
