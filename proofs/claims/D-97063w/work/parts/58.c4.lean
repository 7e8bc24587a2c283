/-! the component: high, level -/
set_option maxRecDepth 100000
section
variable {l : Launch} {G : GG} {th : Th} {rh : Rh} {ph : Ph} {ka : Ka} {A : XA} {j : Nat} {K : Nat → Option Nat} {t : Row} {c w k kd : Nat}
theorem RepT.full {ka : Ka} {j : Nat} {t : Row} (h : RepT ka j t) {k : Nat} (hk : k < nC t) : ka (200 + 8 * j + k) 0 + ka (200 + 8 * j + k) 1 + ka (200 + 8 * j + k) 2 = fullT t k := by
  have h1 := (h.2.2 k hk).2.2
  rw [h1 0 (by decide), h1 1 (by decide), h1 2 (by decide)]
  rfl
theorem plainT_b (t : Row) (k : Nat) : 0 ≤ plainT t k ∧ plainT t k ≤ 999 := by
  unfold plainT wi
  grind
theorem hi3 {x : Int32} (h0 : 0 ≤ x) (h1 : x ≤ 999) : (if (0 : Int32) < x / 2 - 2 then x / 2 - 2 else 0) = if x < 4 then 0 else x / 2 - 2 := by
  obtain ⟨n, -, hn, rfl⟩ := (btw_iff (v := x) (a := 0) (b := 999) (by decide) (by decide)).mp ⟨h0, h1⟩
  have e1 : nI n / 2 = nI (n / 2) := by
    have := pk_div (a := n) (d := 2) (by omega) (by omega) (by omega)
    exact this
  rw [e1]
  by_cases c : n < 4
  · have c' : nI n < 4 := (nI_ltI (b := 4) (by omega) (by decide)).mpr c
    rw [if_pos c']
    rcases (show n = 0 ∨ n = 1 ∨ n = 2 ∨ n = 3 by omega) with rfl | rfl | rfl | rfl <;> decide
  · have c' : ¬ nI n < 4 := fun z => c ((nI_ltI (b := 4) (by omega) (by decide)).mp z)
    rw [if_neg c']
    have e2 : nI (n / 2) - 2 = nI (n / 2 - 2) := by
      have := pk_sub (a := n / 2) (b := 2) (by omega)
      exact this
    rw [e2]
    by_cases c2 : 0 < n / 2 - 2
    · rw [if_pos (show (0 : Int32) < nI (n / 2 - 2) from (nI_ltI (a := 0) (by decide) (by omega)).mpr c2)]
    · rw [show n / 2 - 2 = 0 by omega]; decide
/-- the names of 'high' as they are laid out -/
theorem nm0 {ka : Ka} {f : Nat → Int32} (h1 : ka 6 102 = f 0) (h2 : ka 6 108 = f 1) (h3 : ka 6 119 = f 2) : ∀ k : Nat, k < 128 → 0 ≤ nameT (nI 0) (nI k) → ka 6 k = f (cl (nameT (nI 0) (nI k))) := by
  intro k hk h
  by_cases c1 : k = 102
  · subst c1; exact h1
  · by_cases c2 : k = 108
    · subst c2; exact h2
    · by_cases c3 : k = 119
      · subst c3; exact h3
      · exfalso
        have e : nameT (nI 0) (nI k) = -1 := by
          unfold nameT
          rw [if_pos (show nI 0 = (0 : Int32) from rfl), if_neg (show ¬ nI k = (102 : Int32) from fun z => c1 ((nI_eq (b := 102) (by omega) (by decide)).mp z)), if_neg (show ¬ nI k = (108 : Int32) from fun z => c2 ((nI_eq (b := 108) (by omega) (by decide)).mp z)), if_neg (show ¬ nI k = (119 : Int32) from fun z => c3 ((nI_eq (b := 119) (by omega) (by decide)).mp z))]
        rw [e] at h
        exact absurd h (by decide)
theorem nm1 {ka : Ka} {f : Nat → Int32} (h1 : ka 6 115 = f 0) (h2 : ka 6 104 = f 1) : ∀ k : Nat, k < 128 → 0 ≤ nameT (nI 1) (nI k) → ka 6 k = f (cl (nameT (nI 1) (nI k))) := by
  intro k hk h
  by_cases c1 : k = 115
  · subst c1; exact h1
  · by_cases c2 : k = 104
    · subst c2; exact h2
    · exfalso
      have e : nameT (nI 1) (nI k) = -1 := by
        unfold nameT
        rw [if_neg (show ¬ nI 1 = (0 : Int32) by decide), if_pos (show nI 1 = (1 : Int32) from rfl), if_neg (show ¬ nI k = (115 : Int32) from fun z => c1 ((nI_eq (b := 115) (by omega) (by decide)).mp z)), if_neg (show ¬ nI k = (104 : Int32) from fun z => c2 ((nI_eq (b := 104) (by omega) (by decide)).mp z))]
      rw [e] at h
      exact absurd h (by decide)
theorem nm2 {ka : Ka} {f : Nat → Int32} (h1 : ka 6 119 = f 0) (h2 : ka 6 108 = f 1) : ∀ k : Nat, k < 128 → 0 ≤ nameT (nI 2) (nI k) → ka 6 k = f (cl (nameT (nI 2) (nI k))) := by
  intro k hk h
  by_cases c1 : k = 119
  · subst c1; exact h1
  · by_cases c2 : k = 108
    · subst c2; exact h2
    · exfalso
      have e : nameT (nI 2) (nI k) = -1 := by
        unfold nameT
        rw [if_neg (show ¬ nI 2 = (0 : Int32) by decide), if_neg (show ¬ nI 2 = (1 : Int32) by decide), if_neg (show ¬ nI k = (119 : Int32) from fun z => c1 ((nI_eq (b := 119) (by omega) (by decide)).mp z)), if_neg (show ¬ nI k = (108 : Int32) from fun z => c2 ((nI_eq (b := 108) (by omega) (by decide)).mp z))]
      rw [e] at h
      exact absurd h (by decide)
theorem high_0 {t : Row} {k : Nat} (h : t (7 + 6 * k + 0) = nI 0) : highT t k = plainT t k := by
  unfold highT
  rw [h, if_neg (show ¬ nI 0 = (1 : Int32) by decide), if_neg (show ¬ nI 0 = (3 : Int32) by decide), if_neg (show ¬ (nI 0 = (2 : Int32) ∨ nI 0 = 4) by decide), if_neg (show ¬ nI 0 = (5 : Int32) by decide)]
theorem high_1 {t : Row} {k : Nat} (h : t (7 + 6 * k + 0) = nI 1) : highT t k = plainT t k / 2 := by
  unfold highT
  rw [h, if_pos (show nI 1 = (1 : Int32) from rfl)]
theorem high_2 {t : Row} {k : Nat} (h : t (7 + 6 * k + 0) = nI 2) : highT t k = if 0 < fullT t k then plainT t k + 1 else plainT t k := by
  unfold highT
  rw [h, if_neg (show ¬ nI 2 = (1 : Int32) by decide), if_neg (show ¬ nI 2 = (3 : Int32) by decide), if_pos (show nI 2 = (2 : Int32) ∨ nI 2 = 4 from Or.inl rfl)]
theorem high_3 {t : Row} {k : Nat} (h : t (7 + 6 * k + 0) = nI 3) : highT t k = if plainT t k < 4 then 0 else plainT t k / 2 - 2 := by
  unfold highT
  rw [h, if_neg (show ¬ nI 3 = (1 : Int32) by decide), if_pos (show nI 3 = (3 : Int32) from rfl)]
theorem high_4 {t : Row} {k : Nat} (h : t (7 + 6 * k + 0) = nI 4) : highT t k = if 0 < fullT t k then plainT t k + 1 else plainT t k := by
  unfold highT
  rw [h, if_neg (show ¬ nI 4 = (1 : Int32) by decide), if_neg (show ¬ nI 4 = (3 : Int32) by decide), if_pos (show nI 4 = (2 : Int32) ∨ nI 4 = 4 from Or.inr rfl)]
theorem high_5 {t : Row} {k : Nat} (h : t (7 + 6 * k + 0) = nI 5) : highT t k = 0 := by
  unfold highT
  rw [h, if_neg (show ¬ nI 5 = (1 : Int32) by decide), if_neg (show ¬ nI 5 = (3 : Int32) by decide), if_neg (show ¬ (nI 5 = (2 : Int32) ∨ nI 5 = 4) by decide), if_pos (show nI 5 = (5 : Int32) from rfl)]
theorem kdI {a b : Nat} (ha : a ≤ 5) (hb : b ≤ 5) : nI a = nI b ↔ a = b := nI_eq (by omega) (by omega)
set_option maxHeartbeats 4000000 in
theorem ok_X4_high (hN : Tn th rh ka A j K t) (hnow : rh 0 1 = some (A.tw j)) (hj : j ≤ 2) (hC : LayC th rh A.x c w (100 + 8 * j + k) (200 + 8 * j + k) kd) (hk : k < nC t) (hkt : t (7 + 6 * k + 0) = nI kd) : Met l yX4_high (ws_ yX4_high cX4_high 1 (some .int)) (RM 103 0 0) (Pc_ G [.ref c] th rh ph ka) (Qi G th rh ph (fun r ka' => r = plainT t k ∧ But [6] ka ka')) 0 0 (frG G) := by
  refine m_of (by decide) (Nat.le_of_ble_eq_true rfl) ?_
  intro p_ e_ s_ m_ below_ meth_ c_ B hr hnm ls hl hM
  have hx := B.1
  have hb := B.2.1
  have hM := hM
  obtain ⟨rc, hr_, hrN, hr0, hr1, hr2, hr3, hg0, hg1, hg2, hg3, hrC⟩ := gC4 hC.2.2.2.2
  have hO := hN.1
  refine lv_aload_n hx hb dX4_high_0 rfl (lv_at hl 0 rfl) ?_
  refine r_getq B hM 3 hC.1 hr_ (by rw [hrN]; decide) hr3 hg3 hC.2.2.1 q295 dX4_high_1 ?_
  refine r_getqN B hM 5 hO.1 rfl (by decide) rfl rfl (hO.2 5 _ _ rfl).1 q199 dX4_high_4 ?_
  refine lv_bipush (v := 102) hx hb dX4_high_7 (by decide) ?_
  refine lv_aload_n hx hb dX4_high_9 rfl (lv_at hl 0 rfl) ?_
  refine k_pe (v := ka (200 + 8 * j + k) 0 + ka (200 + 8 * j + k) 1 + ka (200 + 8 * j + k) 2) (r_VA (As := []) (rest := [.int 102, .ref (A.ar 5)]) B hM (v_full hC) q452 rfl hl.1 (Nat.le_of_ble_eq_true rfl) dX4_high_10 ⟨Nat.le_of_ble_eq_true rfl, Nat.le_of_ble_eq_true rfl⟩ ⟨Nat.le_of_ble_eq_true rfl, Nat.le_of_ble_eq_true rfl⟩) hM (fun H locs hM => ?_)
  refine r_topv (v := fullT t k) (hN.2.2.2.2.2.1.full hk) ?_
  refine r_ist B hM 102 (hO.2 5 _ _ rfl).2 rfl (by decide) (by decide) dX4_high_13 (fun ka_1 H locs eka_1 hM => ?_)
  have hB_1 : But [6] ka ka_1 := But.trans But.refl (by rw [eka_1]; exact But.up (by decide))
  have hN1 := hN.but hB_1 hj (by decide)
  refine lv_aload_n hx hb dX4_high_14 rfl (lv_at hl 0 rfl) ?_
  refine r_getq B hM 3 hC.1 hr_ (by rw [hrN]; decide) hr3 hg3 hC.2.2.1 q295 dX4_high_15 ?_
  refine r_getqN B hM 5 hO.1 rfl (by decide) rfl rfl (hO.2 5 _ _ rfl).1 q199 dX4_high_18 ?_
  refine lv_bipush (v := 108) hx hb dX4_high_21 (by decide) ?_
  refine lv_aload_n hx hb dX4_high_23 rfl (lv_at hl 0 rfl) ?_
  refine r_geti B hM 1 hC.1 hr_ (by rw [hrN]; decide) hr1 hg1 q289 dX4_high_24 ?_
  refine r_topv (v := t (7 + 6 * k + 2)) ((hN1.2.2.2.2.2.1.2.2 k hk).2.1) ?_
  refine r_ist B hM 108 (hO.2 5 _ _ rfl).2 rfl (by decide) (by decide) dX4_high_27 (fun ka_2 H locs eka_2 hM => ?_)
  have hB_2 : But [6] ka ka_2 := But.trans hB_1 (by rw [eka_2]; exact But.up (by decide))
  have hN2 := hN.but hB_2 hj (by decide)
  refine lv_aload_n hx hb dX4_high_28 rfl (lv_at hl 0 rfl) ?_
  refine r_getq B hM 3 hC.1 hr_ (by rw [hrN]; decide) hr3 hg3 hC.2.2.1 q295 dX4_high_29 ?_
  refine r_getqN B hM 5 hO.1 rfl (by decide) rfl rfl (hO.2 5 _ _ rfl).1 q199 dX4_high_32 ?_
  refine lv_bipush (v := 119) hx hb dX4_high_35 (by decide) ?_
  refine lv_aload_n hx hb dX4_high_37 rfl (lv_at hl 0 rfl) ?_
  refine r_getq B hM 2 hC.1 hr_ (by rw [hrN]; decide) hr2 hg2 hC.2.1 q292 dX4_high_38 ?_
  refine lv_iconst (v := 0) hx hb dX4_high_41 (by decide) ?_
  refine r_ild B hM 0 hC.2.2.2.1 rfl (by decide) (by decide) dX4_high_42 ?_
  refine r_topv (v := t (7 + 6 * k + (3 + 0))) ((hN2.2.2.2.2.2.1.2.2 k hk).2.2 0 (by decide)) ?_
  refine r_ist B hM 119 (hO.2 5 _ _ rfl).2 rfl (by decide) (by decide) dX4_high_43 (fun ka_3 H locs eka_3 hM => ?_)
  have hB_3 : But [6] ka ka_3 := But.trans hB_2 (by rw [eka_3]; exact But.up (by decide))
  have hN3 := hN.but hB_3 hj (by decide)
  refine lv_aload_n hx hb dX4_high_44 rfl (lv_at hl 0 rfl) ?_
  refine r_getq B hM 3 hC.1 hr_ (by rw [hrN]; decide) hr3 hg3 hC.2.2.1 q295 dX4_high_45 ?_
  refine lv_iconst (v := 0) hx hb dX4_high_48 (by decide) ?_
  refine lv_aload_n hx hb dX4_high_49 rfl (lv_at hl 0 rfl) ?_
  refine k_pe (v := ka_3 (200 + 8 * j + k) 0 + ka_3 (200 + 8 * j + k) 1 + ka_3 (200 + 8 * j + k) 2) (r_VA (As := []) (rest := [.int 0, .ref A.x]) B hM (v_full hC) q452 rfl hl.1 (Nat.le_of_ble_eq_true rfl) dX4_high_50 ⟨Nat.le_of_ble_eq_true rfl, Nat.le_of_ble_eq_true rfl⟩ ⟨Nat.le_of_ble_eq_true rfl, Nat.le_of_ble_eq_true rfl⟩) hM (fun H locs hM => ?_)
  refine r_topv (v := fullT t k) (hN3.2.2.2.2.2.1.full hk) ?_
  refine lv_bipush (v := 10) hx hb dX4_high_53 (by decide) ?_
  refine lv_idiv hx hb dX4_high_55 (by decide) ?_
  refine k_pe (v := ruleT t (nI 0) (facH t k) (fullT t k / 10)) (r_VN (As := [.int 0, .int ((fullT t k) / 10)]) (rest := []) B hM hO.1 rfl rfl (ok_X0_ruled hN3 hnow (f := facH t k) (key := 0) (by decide) (nm0 (f := facH t k) (by rw [eka_3, up2_i _ _ _ _ (by decide), eka_2, up2_i _ _ _ _ (by decide), eka_1, up2_s]; rfl) (by rw [eka_3, up2_i _ _ _ _ (by decide), eka_2, up2_s]; rfl) (by rw [eka_3, up2_s]; rfl)) (fullT t k / 10)) cal_X0_ruled q453 rfl hl.1 (Nat.le_of_ble_eq_true rfl) dX4_high_56 ⟨Nat.le_of_ble_eq_true rfl, Nat.le_of_ble_eq_true rfl⟩ ⟨Nat.le_of_ble_eq_true rfl, Nat.le_of_ble_eq_true rfl⟩) hM (fun H locs hM => ?_)
  refine lv_iconst (v := 0) hx hb dX4_high_59 (by decide) ?_
  refine lv_sipush (v := 999) hx hb dX4_high_60 (by decide) ?_
  refine k_pe (v := wi (ruleT t (nI 0) (facH t k) (fullT t k / 10)) 0 999) (r_SN (As := [.int (ruleT t (nI 0) (facH t k) (fullT t k / 10)), .int 0, .int 999]) (rest := []) B hM (ok_X0_heldIn (ruleT t (nI 0) (facH t k) (fullT t k / 10)) 0 999 (by decide)) cal_X0_heldIn q496 rfl hl.1 (Nat.le_of_ble_eq_true rfl) dX4_high_63 ⟨Nat.le_of_ble_eq_true rfl, Nat.le_of_ble_eq_true rfl⟩ ⟨Nat.le_of_ble_eq_true rfl, Nat.le_of_ble_eq_true rfl⟩) hM (fun H locs hM => ?_)
  refine r_iret B hr hM dX4_high_66 ?_
  refine ⟨?_, hB_3⟩
  unfold plainT ruleT
  rfl
set_option maxHeartbeats 4000000 in
theorem ok_X5_high (hN : Tn th rh ka A j K t) (hnow : rh 0 1 = some (A.tw j)) (hj : j ≤ 2) (hC : LayC th rh A.x c w (100 + 8 * j + k) (200 + 8 * j + k) kd) (hk : k < nC t) (hkt : t (7 + 6 * k + 0) = nI kd) : Met l yX5_high (ws_ yX5_high cX5_high 1 (some .int)) (RM 104 0 0) (Pc_ G [.ref c] th rh ph ka) (Qi G th rh ph (fun r ka' => r = plainT t k / 2 ∧ But [6] ka ka')) 0 0 (frG G) := by
  refine m_of (by decide) (Nat.le_of_ble_eq_true rfl) ?_
  intro p_ e_ s_ m_ below_ meth_ c_ B hr hnm ls hl hM
  have hx := B.1
  have hb := B.2.1
  have hM := hM
  obtain ⟨rc, hr_, hrN, hr0, hr1, hr2, hr3, hg0, hg1, hg2, hg3, hrC⟩ := gC4 hC.2.2.2.2
  have hO := hN.1
  refine lv_aload_n hx hb dX5_high_0 rfl (lv_at hl 0 rfl) ?_
  refine k_i (r_X (As := []) (rest := []) B hM hC.1 hr_ (ok_X4_high hN hnow hj hC hk hkt) calX_5_high q439 rfl hl.1 (Nat.le_of_ble_eq_true rfl) dX5_high_1 ⟨Nat.le_of_ble_eq_true rfl, Nat.le_of_ble_eq_true rfl⟩ ⟨Nat.le_of_ble_eq_true rfl, Nat.le_of_ble_eq_true rfl⟩) hM (fun r_1 ka_2 H locs p_3 hM => ?_)
  obtain ⟨hr1, hq⟩ := p_3
  have hN2 := hN.but hq hj (by decide)
  subst hr1
  refine lv_iconst (v := 2) hx hb dX5_high_4 (by decide) ?_
  refine lv_idiv hx hb dX5_high_5 (by decide) ?_
  refine r_iret B hr hM dX5_high_6 ?_
  exact ⟨rfl, hq⟩
set_option maxHeartbeats 4000000 in
theorem ok_X6_high (hN : Tn th rh ka A j K t) (hnow : rh 0 1 = some (A.tw j)) (hj : j ≤ 2) (hC : LayC th rh A.x c w (100 + 8 * j + k) (200 + 8 * j + k) kd) (hk : k < nC t) (hkt : t (7 + 6 * k + 0) = nI kd) (hkk : kd = 2 ∨ kd = 4) : Met l yX6_high (ws_ yX6_high cX6_high 1 (some .int)) (RM 104 0 0) (Pc_ G [.ref c] th rh ph ka) (Qi G th rh ph (fun r ka' => r = (if 0 < fullT t k then plainT t k + 1 else plainT t k) ∧ But [6] ka ka')) 0 0 (frG G) := by
  refine m_of (by decide) (Nat.le_of_ble_eq_true rfl) ?_
  intro p_ e_ s_ m_ below_ meth_ c_ B hr hnm ls hl hM
  have hx := B.1
  have hb := B.2.1
  have hM := hM
  obtain ⟨rc, hr_, hrN, hr0, hr1, hr2, hr3, hg0, hg1, hg2, hg3, hrC⟩ := gC4 hC.2.2.2.2
  have hO := hN.1
  refine lv_aload_n hx hb dX6_high_0 rfl (lv_at hl 0 rfl) ?_
  refine k_i (r_X (As := []) (rest := []) B hM hC.1 hr_ (ok_X4_high hN hnow hj hC hk hkt) calX_6_high q427 rfl hl.1 (Nat.le_of_ble_eq_true rfl) dX6_high_1 ⟨Nat.le_of_ble_eq_true rfl, Nat.le_of_ble_eq_true rfl⟩ ⟨Nat.le_of_ble_eq_true rfl, Nat.le_of_ble_eq_true rfl⟩) hM (fun r_1 ka_2 H locs p_3 hM => ?_)
  obtain ⟨hr1, hq⟩ := p_3
  have hN2 := hN.but hq hj (by decide)
  subst hr1
  refine lv_aload_n hx hb dX6_high_4 rfl (lv_at hl 0 rfl) ?_
  refine k_pe (v := ka_2 (200 + 8 * j + k) 0 + ka_2 (200 + 8 * j + k) 1 + ka_2 (200 + 8 * j + k) 2) (r_VA (As := []) (rest := [.int (plainT t k)]) B hM (v_lfull hC hkk) q428 rfl hl.1 (Nat.le_of_ble_eq_true rfl) dX6_high_5 ⟨Nat.le_of_ble_eq_true rfl, Nat.le_of_ble_eq_true rfl⟩ ⟨Nat.le_of_ble_eq_true rfl, Nat.le_of_ble_eq_true rfl⟩) hM (fun H locs hM => ?_)
  refine r_topv (v := fullT t k) (hN2.2.2.2.2.2.1.full hk) ?_
  refine lv_if_le (tgt := 15) hx hb dX6_high_8 (by decide) (fun c8 => ?_) (fun c8 => ?_)
  · refine lv_iconst (v := 0) hx hb dX6_high_15 (by decide) ?_
    refine k_pe (v := 0) (r_SN (As := [.int 0]) (rest := [.int (plainT t k)]) B hM (ok_X0_asBit (v := 0) (Or.inl rfl)) cal_X0_asBit q433 rfl hl.1 (Nat.le_of_ble_eq_true rfl) dX6_high_16 ⟨Nat.le_of_ble_eq_true rfl, Nat.le_of_ble_eq_true rfl⟩ ⟨Nat.le_of_ble_eq_true rfl, Nat.le_of_ble_eq_true rfl⟩) hM (fun H locs hM => ?_)
    refine lv_iadd hx hb dX6_high_19 ?_
    refine r_iret B hr hM dX6_high_20 ?_
    refine ⟨?_, hq⟩
    rw [if_neg (i_nlt.mpr c8)]; exact Int32.add_zero _
  · refine lv_iconst (v := 1) hx hb dX6_high_11 (by decide) ?_
    refine lv_goto (tgt := 16) hx hb dX6_high_12 (by decide) ?_
    refine k_pe (v := 1) (r_SN (As := [.int 1]) (rest := [.int (plainT t k)]) B hM (ok_X0_asBit (v := 1) (Or.inr rfl)) cal_X0_asBit q433 rfl hl.1 (Nat.le_of_ble_eq_true rfl) dX6_high_16 ⟨Nat.le_of_ble_eq_true rfl, Nat.le_of_ble_eq_true rfl⟩ ⟨Nat.le_of_ble_eq_true rfl, Nat.le_of_ble_eq_true rfl⟩) hM (fun H locs hM => ?_)
    refine lv_iadd hx hb dX6_high_19 ?_
    refine r_iret B hr hM dX6_high_20 ?_
    refine ⟨?_, hq⟩
    rw [if_pos (i_nle.mp c8)]
set_option maxHeartbeats 4000000 in
theorem ok_X7_high (hN : Tn th rh ka A j K t) (hnow : rh 0 1 = some (A.tw j)) (hj : j ≤ 2) (hC : LayC th rh A.x c w (100 + 8 * j + k) (200 + 8 * j + k) kd) (hk : k < nC t) (hkt : t (7 + 6 * k + 0) = nI kd) : Met l yX7_high (ws_ yX7_high cX7_high 1 (some .int)) (RM 105 0 0) (Pc_ G [.ref c] th rh ph ka) (Qi G th rh ph (fun r ka' => r = (if plainT t k < 4 then 0 else plainT t k / 2 - 2) ∧ But [6] ka ka')) 0 0 (frG G) := by
  refine m_of (by decide) (Nat.le_of_ble_eq_true rfl) ?_
  intro p_ e_ s_ m_ below_ meth_ c_ B hr hnm ls hl hM
  have hx := B.1
  have hb := B.2.1
  have hM := hM
  obtain ⟨rc, hr_, hrN, hr0, hr1, hr2, hr3, hg0, hg1, hg2, hg3, hrC⟩ := gC4 hC.2.2.2.2
  have hO := hN.1
  refine lv_iconst (v := 0) hx hb dX7_high_0 (by decide) ?_
  refine lv_aload_n hx hb dX7_high_1 rfl (lv_at hl 0 rfl) ?_
  refine k_i (r_X (As := []) (rest := [.int 0]) B hM hC.1 hr_ (ok_X5_high hN hnow hj hC hk hkt) calX_7_high q447 rfl hl.1 (Nat.le_of_ble_eq_true rfl) dX7_high_2 ⟨Nat.le_of_ble_eq_true rfl, Nat.le_of_ble_eq_true rfl⟩ ⟨Nat.le_of_ble_eq_true rfl, Nat.le_of_ble_eq_true rfl⟩) hM (fun r_1 ka_2 H locs p_3 hM => ?_)
  obtain ⟨hr1, hq⟩ := p_3
  have hN2 := hN.but hq hj (by decide)
  subst hr1
  refine lv_iconst (v := 2) hx hb dX7_high_5 (by decide) ?_
  refine lv_isub hx hb dX7_high_6 ?_
  refine va_mmax hx hb (B.2.2.1.trans hl.1.symm) B.2.2.2.1 (B.ts _ q448) (B.ts _ q449) (B.ts _ q83) (B.ts _ q450) (Nat.le_of_ble_eq_true rfl) (Nat.le_of_ble_eq_true rfl) (Nat.le_of_ble_eq_true rfl) (Nat.le_of_ble_eq_true rfl) dX7_high_7 ?_
  refine r_iret B hr hM dX7_high_10 ?_
  exact ⟨hi3 (plainT_b t k).1 (plainT_b t k).2, hq⟩
set_option maxHeartbeats 4000000 in
theorem ok_X9_high (hN : Tn th rh ka A j K t) (hnow : rh 0 1 = some (A.tw j)) (hj : j ≤ 2) (hC : LayC th rh A.x c w (100 + 8 * j + k) (200 + 8 * j + k) kd) (hk : k < nC t) (hkt : t (7 + 6 * k + 0) = nI kd) : Met l yX9_high (ws_ yX9_high cX9_high 1 (some .int)) (RM 1 0 0) (Pc_ G [.ref c] th rh ph ka) (Qi G th rh ph (fun r ka' => r = 0 ∧ But [6] ka ka')) 0 0 (frG G) := by
  refine m_of (by decide) (Nat.le_of_ble_eq_true rfl) ?_
  intro p_ e_ s_ m_ below_ meth_ c_ B hr hnm ls hl hM
  have hx := B.1
  have hb := B.2.1
  have hM := hM
  obtain ⟨rc, hr_, hrN, hr0, hr1, hr2, hr3, hg0, hg1, hg2, hg3, hrC⟩ := gC4 hC.2.2.2.2
  have hO := hN.1
  refine lv_iconst (v := 0) hx hb dX9_high_0 (by decide) ?_
  refine r_iret B hr hM dX9_high_1 ?_
  exact ⟨rfl, But.refl⟩
theorem v_high (hN : Tn th rh ka A j K t) (hnow : rh 0 1 = some (A.tw j)) (hj : j ≤ 2) (hC : LayC th rh A.x c w (100 + 8 * j + k) (200 + 8 * j + k) kd) (hk : k < nC t) (hkt : t (7 + 6 * k + 0) = nI kd) : VirtAt l G yX4_high c [] (some .int) 0 105 0 0 th rh ph ka (Qi G th rh ph (fun r ka' => r = highT t k ∧ But [6] ka ka')) := by
  have hk5 := hC.2.2.2.2
  rcases kd_cases hk5 with rfl | rfl | rfl | rfl | rfl | rfl
  · exact ⟨yX4_high, cX4_high, 1, _, _, _, _, hC.1, rfl, calU_high_0, by decide, ((ok_X4_high hN hnow hj hC hk hkt).more (by decide)).qi (fun r k' h => ⟨h.1.trans (high_0 hkt).symm, h.2⟩)⟩
  · exact ⟨yX5_high, cX5_high, 1, _, _, _, _, hC.1, rfl, calU_high_1, by decide, ((ok_X5_high hN hnow hj hC hk hkt).more (by decide)).qi (fun r k' h => ⟨h.1.trans (high_1 hkt).symm, h.2⟩)⟩
  · exact ⟨yX6_high, cX6_high, 1, _, _, _, _, hC.1, rfl, calU_high_2, by decide, ((ok_X6_high hN hnow hj hC hk hkt (Or.inl rfl)).more (by decide)).qi (fun r k' h => ⟨h.1.trans (high_2 hkt).symm, h.2⟩)⟩
  · exact ⟨yX7_high, cX7_high, 1, _, _, _, _, hC.1, rfl, calU_high_3, by decide, ((ok_X7_high hN hnow hj hC hk hkt).more (by decide)).qi (fun r k' h => ⟨h.1.trans (high_3 hkt).symm, h.2⟩)⟩
  · exact ⟨yX6_high, cX6_high, 1, _, _, _, _, hC.1, rfl, calU_high_4, by decide, ((ok_X6_high hN hnow hj hC hk hkt (Or.inr rfl)).more (by decide)).qi (fun r k' h => ⟨h.1.trans (high_4 hkt).symm, h.2⟩)⟩
  · exact ⟨yX9_high, cX9_high, 1, _, _, _, _, hC.1, rfl, calU_high_5, by decide, ((ok_X9_high hN hnow hj hC hk hkt).more (by decide)).qi (fun r k' h => ⟨h.1.trans (high_5 hkt).symm, h.2⟩)⟩
theorem f_high (hN : Tn th rh ka A j K t) (hnow : rh 0 1 = some (A.tw j)) (hj : j ≤ 2) (hC : LayC th rh A.x c w (100 + 8 * j + k) (200 + 8 * j + k) kd) (hk : k < nC t) (hkt : t (7 + 6 * k + 0) = nI kd) : FaceAt l G ⟨"LevelCellars$Stands", "high", "()I"⟩ c [] (some .int) 0 105 0 0 th rh ph ka (Qi G th rh ph (fun r ka' => r = highT t k ∧ But [6] ka ka')) := by
  have hk5 := hC.2.2.2.2
  rcases kd_cases hk5 with rfl | rfl | rfl | rfl | rfl | rfl
  · exact ⟨yX4_high, cX4_high, 1, _, _, _, hC.1, rfl, calF_high_0, by decide, ((ok_X4_high hN hnow hj hC hk hkt).more (by decide)).qi (fun r k' h => ⟨h.1.trans (high_0 hkt).symm, h.2⟩)⟩
  · exact ⟨yX5_high, cX5_high, 1, _, _, _, hC.1, rfl, calF_high_1, by decide, ((ok_X5_high hN hnow hj hC hk hkt).more (by decide)).qi (fun r k' h => ⟨h.1.trans (high_1 hkt).symm, h.2⟩)⟩
  · exact ⟨yX6_high, cX6_high, 1, _, _, _, hC.1, rfl, calF_high_2, by decide, ((ok_X6_high hN hnow hj hC hk hkt (Or.inl rfl)).more (by decide)).qi (fun r k' h => ⟨h.1.trans (high_2 hkt).symm, h.2⟩)⟩
  · exact ⟨yX7_high, cX7_high, 1, _, _, _, hC.1, rfl, calF_high_3, by decide, ((ok_X7_high hN hnow hj hC hk hkt).more (by decide)).qi (fun r k' h => ⟨h.1.trans (high_3 hkt).symm, h.2⟩)⟩
  · exact ⟨yX6_high, cX6_high, 1, _, _, _, hC.1, rfl, calF_high_4, by decide, ((ok_X6_high hN hnow hj hC hk hkt (Or.inr rfl)).more (by decide)).qi (fun r k' h => ⟨h.1.trans (high_4 hkt).symm, h.2⟩)⟩
  · exact ⟨yX9_high, cX9_high, 1, _, _, _, hC.1, rfl, calF_high_5, by decide, ((ok_X9_high hN hnow hj hC hk hkt).more (by decide)).qi (fun r k' h => ⟨h.1.trans (high_5 hkt).symm, h.2⟩)⟩
set_option maxHeartbeats 4000000 in
theorem ok_X17_above (hN : Tn th rh ka A j K t) (hnow : rh 0 1 = some (A.tw j)) (hj : j ≤ 2) (hC : LayC th rh A.x c w (100 + 8 * j + k) (200 + 8 * j + k) kd) (hk : k < nC t) (hkt : t (7 + 6 * k + 0) = nI kd) (v : Int32) : Wlk l G yX17_above cX17_above 2 (some .int) (RM 106 0 0) [.ref c, .int v] th rh ph ka (Qi G th rh ph (fun r ka' => r = v + highT t k ∧ But [6] ka ka')) 0 0 := by
  intro p_ e_ s_ m_ below_ meth_ c_ B hr hnm ls hl hM
  have hx := B.1
  have hb := B.2.1
  have hM := hM
  obtain ⟨rc, hr_, hrN, hr0, hr1, hr2, hr3, hg0, hg1, hg2, hg3, hrC⟩ := gC4 hC.2.2.2.2
  have hO := hN.1
  refine lv_iload_n hx hb dX17_above_0 rfl (lv_at hl 1 rfl) ?_
  refine lv_aload_n hx hb dX17_above_1 rfl (lv_at hl 0 rfl) ?_
  refine k_i5 (r_FA (As := []) (rest := [.int v]) B hM (f_high hN hnow hj hC hk hkt) q524 rfl hl.1 (Nat.le_of_ble_eq_true rfl) dX17_above_2 ⟨Nat.le_of_ble_eq_true rfl, Nat.le_of_ble_eq_true rfl⟩ ⟨Nat.le_of_ble_eq_true rfl, Nat.le_of_ble_eq_true rfl⟩) hM (fun r_1 ka_2 H locs p_3 hM => ?_)
  obtain ⟨hr1, hq⟩ := p_3
  subst hr1
  refine lv_iadd hx hb dX17_above_7 ?_
  refine r_iret B hr hM dX17_above_8 ?_
  exact ⟨rfl, hq⟩
set_option maxHeartbeats 4000000 in
theorem ok_X4_level (hN : Tn th rh ka A j K t) (hnow : rh 0 1 = some (A.tw j)) (hj : j ≤ 2) (hC : LayC th rh A.x c w (100 + 8 * j + k) (200 + 8 * j + k) kd) (hk : k < nC t) (hkt : t (7 + 6 * k + 0) = nI kd) : Met l yX4_level (ws_ yX4_level cX4_level 1 (some .int)) (RM 107 0 0) (Pc_ G [.ref c] th rh ph ka) (Qi G th rh ph (fun r ka' => r = levelT t k ∧ But [6] ka ka')) 0 0 (frG G) := by
  refine m_of (by decide) (Nat.le_of_ble_eq_true rfl) ?_
  intro p_ e_ s_ m_ below_ meth_ c_ B hr hnm ls hl hM
  have hx := B.1
  have hb := B.2.1
  have hM := hM
  obtain ⟨rc, hr_, hrN, hr0, hr1, hr2, hr3, hg0, hg1, hg2, hg3, hrC⟩ := gC4 hC.2.2.2.2
  have hO := hN.1
  refine lv_aload_n hx hb dX4_level_0 rfl (lv_at hl 0 rfl) ?_
  refine lv_aload_n hx hb dX4_level_1 rfl (lv_at hl 0 rfl) ?_
  refine r_geti B hM 0 hC.1 hr_ (by rw [hrN]; decide) hr0 hg0 q287 dX4_level_2 ?_
  refine r_topv (v := t (7 + 6 * k + 1)) ((hN.2.2.2.2.2.1.2.2 k hk).1) ?_
  refine k_i (r_above (rest := []) B hM hC.1 hC.2.2.2.2 (ok_X17_above hN hnow hj hC hk hkt (t (7 + 6 * k + 1))) hl.1 (Nat.le_of_ble_eq_true rfl) dX4_level_5 ⟨Nat.le_of_ble_eq_true rfl, Nat.le_of_ble_eq_true rfl⟩ ⟨Nat.le_of_ble_eq_true rfl, Nat.le_of_ble_eq_true rfl⟩) hM (fun r_ kz H locs hp_ hM => ?_)
  obtain ⟨hr1, hq⟩ := hp_
  subst hr1
  refine r_iret B hr hM dX4_level_8 ?_
  exact ⟨rfl, hq⟩
theorem v_level (hN : Tn th rh ka A j K t) (hnow : rh 0 1 = some (A.tw j)) (hj : j ≤ 2) (hC : LayC th rh A.x c w (100 + 8 * j + k) (200 + 8 * j + k) kd) (hk : k < nC t) (hkt : t (7 + 6 * k + 0) = nI kd) : VirtAt l G yX4_level c [] (some .int) 0 107 0 0 th rh ph ka (Qi G th rh ph (fun r ka' => r = levelT t k ∧ But [6] ka ka')) := by
  have hk5 := hC.2.2.2.2
  rcases kd_cases hk5 with rfl | rfl | rfl | rfl | rfl | rfl
  · exact ⟨yX4_level, cX4_level, 1, _, _, _, _, hC.1, rfl, calU_level_0, by decide, ok_X4_level hN hnow hj hC hk hkt⟩
  · exact ⟨yX4_level, cX4_level, 1, _, _, _, _, hC.1, rfl, calU_level_1, by decide, ok_X4_level hN hnow hj hC hk hkt⟩
  · exact ⟨yX4_level, cX4_level, 1, _, _, _, _, hC.1, rfl, calU_level_2, by decide, ok_X4_level hN hnow hj hC hk hkt⟩
  · exact ⟨yX4_level, cX4_level, 1, _, _, _, _, hC.1, rfl, calU_level_3, by decide, ok_X4_level hN hnow hj hC hk hkt⟩
  · exact ⟨yX4_level, cX4_level, 1, _, _, _, _, hC.1, rfl, calU_level_4, by decide, ok_X4_level hN hnow hj hC hk hkt⟩
  · exact ⟨yX4_level, cX4_level, 1, _, _, _, _, hC.1, rfl, calU_level_5, by decide, ok_X4_level hN hnow hj hC hk hkt⟩
end
