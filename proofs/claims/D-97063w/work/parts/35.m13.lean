/-! the model: rules, sheets, images -/
set_option maxRecDepth 100000
section
variable {l : Launch} {G : GG} {th : Th} {rh : Rh} {ph : Ph} {ka : Ka} {y0 : Nat} {ay : Nat → Nat}
set_option maxHeartbeats 4000000 in
theorem ok_fee (hL : LayM th rh y0 ay) (hR : Rok (ka 1000))  : Met l yX3_fee (ws_ yX3_fee cX3_fee 2 (some .int)) (RM 3 0 0) (Pc_ G [.ref y0] th rh ph ka) (Qi G th rh ph (fun r ka' => r = A_fee (sg ka)  ∧ Rel (sg ka) (sg ka'))) 0 0 (frG G) := by
  refine m_of (by decide) (Nat.le_of_ble_eq_true rfl) ?_
  intro p_ e_ s_ m_ below_ meth_ c_ B hr hnm ls hl hM
  have hx := B.1
  have hb := B.2.1
  have hM := hM
  have h8 := hR.1.2
  have h13 := hR.2.1.2
  have h14 := hR.2.2.1.2
  refine lv_aload_n hx hb dX3_fee_0 rfl (lv_at hl 0 rfl) ?_
  refine lv_iconst (v := 1) hx hb dX3_fee_1 (by decide) ?_
  refine k_pe (v := opI (cntT (ka 1000) 1 (nX (ka 1000)))) (r_V (As := [.int 1]) (rest := []) B hM hL.1 rfl rfl (ok_counts hL hR 1) cal_X3_counts q1522 rfl hl.1 (Nat.le_of_ble_eq_true rfl) dX3_fee_2 ⟨Nat.le_of_ble_eq_true rfl, Nat.le_of_ble_eq_true rfl⟩ ⟨Nat.le_of_ble_eq_true rfl, Nat.le_of_ble_eq_true rfl⟩) hM (fun H locs hM => ?_)
  refine lv_topi (fun v_1 ev_1 => ?_)
  refine lv_istore_n (lv' := [(1, .int v_1), (0, .ref y0)]) hx hb dX3_fee_5 rfl hl (by decide) rfl (fun ls hl => ?_)
  refine lv_aload_n hx hb dX3_fee_6 rfl (lv_at hl 1 rfl) ?_
  refine r_getq B hM 24 hL.1 rfl (by decide) rfl rfl (hL.2 24 _ _ rfl).1 q1406 dX3_fee_7 ?_
  refine lv_iconst (v := 0) hx hb dX3_fee_10 (by decide) ?_
  refine lv_aload_n hx hb dX3_fee_11 rfl (lv_at hl 1 rfl) ?_
  refine r_getq B hM 0 hL.1 rfl (by decide) rfl rfl (hL.2 0 _ _ rfl).1 q1382 dX3_fee_12 ?_
  refine lv_iconst (v := 5) hx hb dX3_fee_15 (by decide) ?_
  refine r_ild B hM 5 (hL.2 0 _ _ rfl).2 rfl (by decide) (by decide) dX3_fee_16 ?_
  refine r_ist B hM 0 (hL.2 24 _ _ rfl).2 rfl (by decide) (by decide) dX3_fee_17 (fun ka_2 H locs eka_2 hM => ?_)
  have hB_2 : But [1023, 1024] ka ka_2 := But.trans But.refl (by rw [eka_2]; exact But.up (by decide))
  refine lv_aload_n hx hb dX3_fee_18 rfl (lv_at hl 1 rfl) ?_
  refine r_getq B hM 24 hL.1 rfl (by decide) rfl rfl (hL.2 24 _ _ rfl).1 q1406 dX3_fee_19 ?_
  refine lv_iconst (v := 1) hx hb dX3_fee_22 (by decide) ?_
  refine lv_aload_n hx hb dX3_fee_23 rfl (lv_at hl 1 rfl) ?_
  refine r_getq B hM 0 hL.1 rfl (by decide) rfl rfl (hL.2 0 _ _ rfl).1 q1382 dX3_fee_24 ?_
  refine lv_iconst (v := 3) hx hb dX3_fee_27 (by decide) ?_
  refine r_ild B hM 3 (hL.2 0 _ _ rfl).2 rfl (by decide) (by decide) dX3_fee_28 ?_
  refine r_topv (v := ka 1000 3) (congrFun (hB_2 1000 (by decide)) _) ?_
  refine r_ist B hM 1 (hL.2 24 _ _ rfl).2 rfl (by decide) (by decide) dX3_fee_29 (fun ka_3 H locs eka_3 hM => ?_)
  have hB_3 : But [1023, 1024] ka ka_3 := But.trans hB_2 (by rw [eka_3]; exact But.up (by decide))
  refine lv_iload_n hx hb dX3_fee_30 rfl (lv_at hl 0 rfl) ?_
  refine lv_if_ge (tgt := 43) hx hb dX3_fee_31 (by decide) (fun c31 => ?_) (fun c31 => ?_)
  · obtain ⟨x, hcx⟩ := opI_pos (by rw [← ev_1]; exact c31)
    have hvx : v_1 = nI x := by rw [ev_1, hcx]; rfl
    obtain ⟨hx14, hlen, hmany, hokc⟩ := hR.txt (key := 1) hcx (by decide)
    have hfa : ∀ i, i < 2 → ka_3 1024 i = fac2 (ka 1000 5) (ka 1000 3) i := by
      intro i hi
      rcases (show i = 0 ∨ i = 1 by omega) with rfl | rfl <;> simp [eka_2, eka_3, up2, fac2]
    refine lv_aload_n hx hb dX3_fee_43 rfl (lv_at hl 1 rfl) ?_
    refine lv_iload_n hx hb dX3_fee_44 rfl (lv_at hl 0 rfl) ?_
    refine r_topv (v := nI x) hvx ?_
    refine k_i (r_V (As := [.int (nI x)]) (rest := []) B hM hL.1 rfl rfl (ok_worksOut hL (x := x) (m := 2) hx14 (by decide) (by rw [hB_3 1000 (by decide)]; exact hlen) (by rw [hB_3 1000 (by decide)]; exact hmany) (by rw [hB_3 1000 (by decide)]; exact hokc)) cal_X3_worksOut q1529 rfl hl.1 (Nat.le_of_ble_eq_true rfl) dX3_fee_45 ⟨Nat.le_of_ble_eq_true rfl, Nat.le_of_ble_eq_true rfl⟩ ⟨Nat.le_of_ble_eq_true rfl, Nat.le_of_ble_eq_true rfl⟩) hM (fun r_4 ka_5 H locs p_6 hM => ?_)
    obtain ⟨hr1, hq⟩ := p_6
    have hr2 : r_4 = worksT (ka 1000) x (fac2 (ka 1000 5) (ka 1000 3)) := by rw [hr1, hB_3 1000 (by decide)]; exact worksT_congr (by decide) hokc hfa
    have hB_5 : But [1023, 1024] ka ka_5 := But.trans hB_3 (But.mono hq (by decide))
    refine r_iret B hr hM dX3_fee_48 ?_
    constructor
    · simp only [A_fee, sg0, sg1, sg7, sg25, sg26, sg27, sg28, sg29, sg30, sg31, sg33, sg99]; unfold ruleT; rw [hcx]; exact hr2
    · exact But.rel hB_5 (by decide)
  · have hcn := opI_neg (t := ka 1000) (by rw [← ev_1]; exact c31) (cntT_lt hR)
    refine lv_aload_n hx hb dX3_fee_34 rfl (lv_at hl 1 rfl) ?_
    refine r_getq B hM 0 hL.1 rfl (by decide) rfl rfl (hL.2 0 _ _ rfl).1 q1382 dX3_fee_35 ?_
    refine lv_iconst (v := 5) hx hb dX3_fee_38 (by decide) ?_
    refine r_ild B hM 5 (hL.2 0 _ _ rfl).2 rfl (by decide) (by decide) dX3_fee_39 ?_
    refine r_topv (v := ka 1000 5) (congrFun (hB_3 1000 (by decide)) _) ?_
    refine lv_goto (tgt := 48) hx hb dX3_fee_40 (by decide) ?_
    refine r_iret B hr hM dX3_fee_48 ?_
    constructor
    · simp only [A_fee, sg0, sg1, sg7, sg25, sg26, sg27, sg28, sg29, sg30, sg31, sg33, sg99]; unfold ruleT; rw [hcn]
    · exact But.rel hB_3 (by decide)
set_option maxHeartbeats 4000000 in
theorem ok_fine (hL : LayM th rh y0 ay) (hR : Rok (ka 1000)) (c : Int32) : Met l yX3_fine (ws_ yX3_fine cX3_fine 4 (some .int)) (RM 5 0 0) (Pc_ G [.ref y0, .int c] th rh ph ka) (Qi G th rh ph (fun r ka' => r = A_fine (sg ka) c ∧ Rel (sg ka) (sg ka'))) 0 0 (frG G) := by
  refine m_of (by decide) (Nat.le_of_ble_eq_true rfl) ?_
  intro p_ e_ s_ m_ below_ meth_ c_ B hr hnm ls hl hM
  have hx := B.1
  have hb := B.2.1
  have hM := hM
  have h8 := hR.1.2
  have h13 := hR.2.1.2
  have h14 := hR.2.2.1.2
  refine lv_aload_n hx hb dX3_fine_0 rfl (lv_at hl 0 rfl) ?_
  refine lv_iload_n hx hb dX3_fine_1 rfl (lv_at hl 1 rfl) ?_
  refine k_pb (r_V (As := [.int c]) (rest := []) B hM hL.1 rfl rfl (ok_isCellar hL hR c) cal_X3_isCellar q1506 rfl hl.1 (Nat.le_of_ble_eq_true rfl) dX3_fine_2 ⟨Nat.le_of_ble_eq_true rfl, Nat.le_of_ble_eq_true rfl⟩ ⟨Nat.le_of_ble_eq_true rfl, Nat.le_of_ble_eq_true rfl⟩) hM (fun H locs b2 hM => ?_) (fun H locs b2 hM => ?_)
  · obtain ⟨kc, hkc, rfl⟩ := b2
    have hinkc : inC (nI kc) (nC (ka 1000)) := (inC_iff (by omega)).mpr ⟨kc, hkc, rfl⟩
    have hclkc : cl (nI kc) = kc := cl_nI (by omega)
    refine lv_if_ne (tgt := 11) hx hb dX3_fine_5 (by decide) (fun c5 => ?_) (fun cZ => absurd cZ (by decide))
    refine lv_aload_n hx hb dX3_fine_11 rfl (lv_at hl 0 rfl) ?_
    refine lv_iload_n hx hb dX3_fine_12 rfl (lv_at hl 1 rfl) ?_
    refine k_i (r_V (As := [.int (nI kc)]) (rest := []) B hM hL.1 rfl rfl (ok_levelOf hL hR (c := kc) (by omega)) cal_X3_levelOf q1536 rfl hl.1 (Nat.le_of_ble_eq_true rfl) dX3_fine_13 ⟨Nat.le_of_ble_eq_true rfl, Nat.le_of_ble_eq_true rfl⟩ ⟨Nat.le_of_ble_eq_true rfl, Nat.le_of_ble_eq_true rfl⟩) hM (fun r_1 ka_2 H locs p_3 hM => ?_)
    obtain ⟨rfl, hq⟩ := p_3
    have hB_2 : But [1023, 1024] ka ka_2 := But.trans But.refl (But.mono hq (by decide))
    refine lv_topi (fun v_4 ev_4 => ?_)
    refine lv_istore_n (lv' := [(2, .int v_4), (0, .ref y0), (1, .int (nI kc))]) hx hb dX3_fine_16 rfl hl (by decide) rfl (fun ls hl => ?_)
    refine lv_aload_n hx hb dX3_fine_17 rfl (lv_at hl 1 rfl) ?_
    refine lv_iconst (v := 2) hx hb dX3_fine_18 (by decide) ?_
    refine k_pe (v := opI (cntT (ka_2 1000) 2 (nX (ka_2 1000)))) (r_V (As := [.int 2]) (rest := []) B hM hL.1 rfl rfl (ok_counts hL (by rw [(hB_2 1000 (by decide))]; exact hR) 2) cal_X3_counts q1522 rfl hl.1 (Nat.le_of_ble_eq_true rfl) dX3_fine_19 ⟨Nat.le_of_ble_eq_true rfl, Nat.le_of_ble_eq_true rfl⟩ ⟨Nat.le_of_ble_eq_true rfl, Nat.le_of_ble_eq_true rfl⟩) hM (fun H locs hM => ?_)
    refine r_topv (v := opI (cntT (ka 1000) 2 (nX (ka 1000)))) (by rw [(hB_2 1000 (by decide))]) ?_
    refine lv_topi (fun v_5 ev_5 => ?_)
    refine lv_istore_n (lv' := [(3, .int v_5), (2, .int v_4), (0, .ref y0), (1, .int (nI kc))]) hx hb dX3_fine_22 rfl hl (by decide) rfl (fun ls hl => ?_)
    refine lv_aload_n hx hb dX3_fine_23 rfl (lv_at hl 2 rfl) ?_
    refine r_getq B hM 24 hL.1 rfl (by decide) rfl rfl (hL.2 24 _ _ rfl).1 q1406 dX3_fine_24 ?_
    refine lv_iconst (v := 0) hx hb dX3_fine_27 (by decide) ?_
    refine lv_aload_n hx hb dX3_fine_28 rfl (lv_at hl 2 rfl) ?_
    refine lv_iload_n hx hb dX3_fine_29 rfl (lv_at hl 3 rfl) ?_
    refine k_pe (v := fullT (ka_2 1000) kc) (r_V (As := [.int (nI kc)]) (rest := [.int 0, .ref (ay 24)]) B hM hL.1 rfl rfl (ok_fullOf hL (c := kc) (by omega)) cal_X3_fullOf q1514 rfl hl.1 (Nat.le_of_ble_eq_true rfl) dX3_fine_30 ⟨Nat.le_of_ble_eq_true rfl, Nat.le_of_ble_eq_true rfl⟩ ⟨Nat.le_of_ble_eq_true rfl, Nat.le_of_ble_eq_true rfl⟩) hM (fun H locs hM => ?_)
    refine r_topv (v := fullT (ka 1000) kc) (by rw [(hB_2 1000 (by decide))]) ?_
    refine r_ist B hM 0 (hL.2 24 _ _ rfl).2 rfl (by decide) (by decide) dX3_fine_33 (fun ka_6 H locs eka_6 hM => ?_)
    have hB_6 : But [1023, 1024] ka ka_6 := But.trans hB_2 (by rw [eka_6]; exact But.up (by decide))
    refine lv_aload_n hx hb dX3_fine_34 rfl (lv_at hl 2 rfl) ?_
    refine r_getq B hM 24 hL.1 rfl (by decide) rfl rfl (hL.2 24 _ _ rfl).1 q1406 dX3_fine_35 ?_
    refine lv_iconst (v := 1) hx hb dX3_fine_38 (by decide) ?_
    refine lv_iload_n hx hb dX3_fine_39 rfl (lv_at hl 1 rfl) ?_
    refine r_ist B hM 1 (hL.2 24 _ _ rfl).2 rfl (by decide) (by decide) dX3_fine_40 (fun ka_7 H locs eka_7 hM => ?_)
    have hB_7 : But [1023, 1024] ka ka_7 := But.trans hB_6 (by rw [eka_7]; exact But.up (by decide))
    refine lv_iload_n hx hb dX3_fine_41 rfl (lv_at hl 0 rfl) ?_
    refine lv_if_ge (tgt := 53) hx hb dX3_fine_42 (by decide) (fun c42 => ?_) (fun c42 => ?_)
    · obtain ⟨x, hcx⟩ := opI_pos (by rw [← ev_5]; exact c42)
      have hvx : v_5 = nI x := by rw [ev_5, hcx]; rfl
      obtain ⟨hx14, hlen, hmany, hokc⟩ := hR.txt (key := 2) hcx (by decide)
      have hfa : ∀ i, i < 2 → ka_7 1024 i = fac2 (fullT (ka 1000) kc) (levelT (ka 1000) kc) i := by
        intro i hi
        rcases (show i = 0 ∨ i = 1 by omega) with rfl | rfl <;> simp [eka_6, eka_7, up2, fac2, ev_4]
      refine lv_aload_n hx hb dX3_fine_53 rfl (lv_at hl 2 rfl) ?_
      refine lv_iload_n hx hb dX3_fine_54 rfl (lv_at hl 0 rfl) ?_
      refine r_topv (v := nI x) hvx ?_
      refine k_i (r_V (As := [.int (nI x)]) (rest := []) B hM hL.1 rfl rfl (ok_worksOut hL (x := x) (m := 2) hx14 (by decide) (by rw [hB_7 1000 (by decide)]; exact hlen) (by rw [hB_7 1000 (by decide)]; exact hmany) (by rw [hB_7 1000 (by decide)]; exact hokc)) cal_X3_worksOut q1529 rfl hl.1 (Nat.le_of_ble_eq_true rfl) dX3_fine_55 ⟨Nat.le_of_ble_eq_true rfl, Nat.le_of_ble_eq_true rfl⟩ ⟨Nat.le_of_ble_eq_true rfl, Nat.le_of_ble_eq_true rfl⟩) hM (fun r_8 ka_9 H locs p_10 hM => ?_)
      obtain ⟨hr1, hq⟩ := p_10
      have hr2 : r_8 = worksT (ka 1000) x (fac2 (fullT (ka 1000) kc) (levelT (ka 1000) kc)) := by rw [hr1, hB_7 1000 (by decide)]; exact worksT_congr (by decide) hokc hfa
      have hB_9 : But [1023, 1024] ka ka_9 := But.trans hB_7 (But.mono hq (by decide))
      refine r_iret B hr hM dX3_fine_58 ?_
      constructor
      · show _ = A_fine (sg ka) (nI kc); unfold A_fine; rw [if_neg (by exact fun z => z hinkc)]; simp only [A_fine, sg0, sg1, sg7, sg25, sg26, sg27, sg28, sg29, sg30, sg31, sg33, sg99, hclkc]; unfold ruleT; rw [hcx]; exact hr2
      · exact But.rel hB_9 (by decide)
    · have hcn := opI_neg (t := ka 1000) (by rw [← ev_5]; exact c42) (cntT_lt hR)
      refine lv_aload_n hx hb dX3_fine_45 rfl (lv_at hl 2 rfl) ?_
      refine lv_iload_n hx hb dX3_fine_46 rfl (lv_at hl 3 rfl) ?_
      refine k_pe (v := fullT (ka_7 1000) kc) (r_V (As := [.int (nI kc)]) (rest := []) B hM hL.1 rfl rfl (ok_fullOf hL (c := kc) (by omega)) cal_X3_fullOf q1514 rfl hl.1 (Nat.le_of_ble_eq_true rfl) dX3_fine_47 ⟨Nat.le_of_ble_eq_true rfl, Nat.le_of_ble_eq_true rfl⟩ ⟨Nat.le_of_ble_eq_true rfl, Nat.le_of_ble_eq_true rfl⟩) hM (fun H locs hM => ?_)
      refine r_topv (v := fullT (ka 1000) kc) (by rw [(hB_7 1000 (by decide))]) ?_
      refine lv_goto (tgt := 58) hx hb dX3_fine_50 (by decide) ?_
      refine r_iret B hr hM dX3_fine_58 ?_
      constructor
      · show _ = A_fine (sg ka) (nI kc); unfold A_fine; rw [if_neg (by exact fun z => z hinkc)]; simp only [A_fine, sg0, sg1, sg7, sg25, sg26, sg27, sg28, sg29, sg30, sg31, sg33, sg99, hclkc]; unfold ruleT; rw [hcn]
      · exact But.rel hB_7 (by decide)
  · refine lv_if_ne (tgt := 11) hx hb dX3_fine_5 (by decide) (fun cZ => absurd (by decide) cZ) (fun c5 => ?_)
    refine lv_ldc hx hb B.2.2.2.1 (B.ts _ q1496) dX3_fine_8 ?_
    refine r_iret B hr hM dX3_fine_10 ?_
    have ib2 := mt (inC_iff (n := nC (ka 1000)) (by omega)).mp b2
    constructor
    · simp only [A_fine, sg0, sg1, sg7, sg25, sg26, sg27, sg28, sg29, sg30, sg31, sg33, sg99] <;> grind
    · exact Rel.refl
set_option maxHeartbeats 4000000 in
theorem ok_keep (hL : LayM th rh y0 ay)  : Met l yX3_keep (ws_ yX3_keep cX3_keep 1 (some .int)) (RM 2 0 0) (Pc_ G [.ref y0] th rh ph ka) (Qi G th rh ph (fun r ka' => r = A_keep (sg ka)  ∧ Rel (S_keep (sg ka) ) (sg ka'))) 0 0 (frG G) := by
  refine m_of (by decide) (Nat.le_of_ble_eq_true rfl) ?_
  intro p_ e_ s_ m_ below_ meth_ c_ B hr hnm ls hl hM
  have hx := B.1
  have hb := B.2.1
  have hM := hM
  refine lv_aload_n hx hb dX3_keep_0 rfl (lv_at hl 0 rfl) ?_
  refine r_getq B hM 0 hL.1 rfl (by decide) rfl rfl (hL.2 0 _ _ rfl).1 q1382 dX3_keep_1 ?_
  refine lv_aload_n hx hb dX3_keep_4 rfl (lv_at hl 0 rfl) ?_
  refine r_getq B hM 1 hL.1 rfl (by decide) rfl rfl (hL.2 1 _ _ rfl).1 q1383 dX3_keep_5 ?_
  refine k_v (r_S (As := [.ref (ay 0), .ref (ay 1)]) (rest := []) B hM (ok_copyAll (hL.2 0 _ _ rfl).2 (hL.2 1 _ _ rfl).2 (by decide)) cal_X3_copyAll q1844 rfl hl.1 (Nat.le_of_ble_eq_true rfl) dX3_keep_8 ⟨Nat.le_of_ble_eq_true rfl, Nat.le_of_ble_eq_true rfl⟩ ⟨Nat.le_of_ble_eq_true rfl, Nat.le_of_ble_eq_true rfl⟩) hM (fun ka_1 H locs p_2 hM => ?_)
  obtain ⟨hcp, hq⟩ := p_2
  refine lv_aload_n hx hb dX3_keep_11 rfl (lv_at hl 0 rfl) ?_
  refine lv_iconst (v := 1) hx hb dX3_keep_12 (by decide) ?_
  refine r_putz B hM 3 hL.1 rfl (by decide) rfl rfl (Or.inr rfl) q1385 dX3_keep_13 (fun ka_3 H locs eka_3 hM => ?_)
  refine lv_aload_n hx hb dX3_keep_16 rfl (lv_at hl 0 rfl) ?_
  refine r_getq B hM 0 hL.1 rfl (by decide) rfl rfl (hL.2 0 _ _ rfl).1 q1382 dX3_keep_17 ?_
  refine lv_iconst (v := 1) hx hb dX3_keep_20 (by decide) ?_
  refine r_ild B hM 1 (hL.2 0 _ _ rfl).2 rfl (by decide) (by decide) dX3_keep_21 ?_
  refine r_iret B hr hM dX3_keep_22 ?_
  constructor
  · show _ = ka 1000 1; rw [eka_3, up2_a _ _ _ (by decide), hq 1000 (by decide)]
  · have e1 : ka_1 = up1 ka 1001 (cpT (ka 1000) (ka 1001)) := by
      funext j; by_cases hj : j = 1001
      · subst hj; rw [up1_s]; exact hcp
      · rw [up1_a _ _ hj]; exact hq j (fun z => hj (List.mem_singleton.mp z))
    refine Rel.of ?_; rw [eka_3, e1, sg_up2 _ 99, sg_up1 _ 1]; rfl
set_option maxHeartbeats 4000000 in
theorem ok_back (hL : LayM th rh y0 ay)  : Met l yX3_back (ws_ yX3_back cX3_back 1 (some .int)) (RM 2 0 0) (Pc_ G [.ref y0] th rh ph ka) (Qi G th rh ph (fun r ka' => r = A_back (sg ka)  ∧ Rel (S_back (sg ka) ) (sg ka'))) 0 0 (frG G) := by
  refine m_of (by decide) (Nat.le_of_ble_eq_true rfl) ?_
  intro p_ e_ s_ m_ below_ meth_ c_ B hr hnm ls hl hM
  have hx := B.1
  have hb := B.2.1
  have hM := hM
  refine lv_aload_n hx hb dX3_back_0 rfl (lv_at hl 0 rfl) ?_
  refine r_geti B hM 3 hL.1 rfl (by decide) rfl rfl q1385 dX3_back_1 ?_
  refine lv_if_ne (tgt := 11) hx hb dX3_back_4 (by decide) (fun c4 => ?_) (fun c4 => ?_)
  · refine lv_aload_n hx hb dX3_back_11 rfl (lv_at hl 0 rfl) ?_
    refine r_getq B hM 1 hL.1 rfl (by decide) rfl rfl (hL.2 1 _ _ rfl).1 q1383 dX3_back_12 ?_
    refine lv_aload_n hx hb dX3_back_15 rfl (lv_at hl 0 rfl) ?_
    refine r_getq B hM 0 hL.1 rfl (by decide) rfl rfl (hL.2 0 _ _ rfl).1 q1382 dX3_back_16 ?_
    refine k_v (r_S (As := [.ref (ay 1), .ref (ay 0)]) (rest := []) B hM (ok_copyAll (hL.2 1 _ _ rfl).2 (hL.2 0 _ _ rfl).2 (by decide)) cal_X3_copyAll q1844 rfl hl.1 (Nat.le_of_ble_eq_true rfl) dX3_back_19 ⟨Nat.le_of_ble_eq_true rfl, Nat.le_of_ble_eq_true rfl⟩ ⟨Nat.le_of_ble_eq_true rfl, Nat.le_of_ble_eq_true rfl⟩) hM (fun ka_1 H locs p_2 hM => ?_)
    obtain ⟨hcp, hq⟩ := p_2
    refine lv_aload_n hx hb dX3_back_22 rfl (lv_at hl 0 rfl) ?_
    refine r_getq B hM 0 hL.1 rfl (by decide) rfl rfl (hL.2 0 _ _ rfl).1 q1382 dX3_back_23 ?_
    refine lv_iconst (v := 1) hx hb dX3_back_26 (by decide) ?_
    refine r_ild B hM 1 (hL.2 0 _ _ rfl).2 rfl (by decide) (by decide) dX3_back_27 ?_
    refine r_iret B hr hM dX3_back_28 ?_
    constructor
    · show _ = A_back (sg ka); unfold A_back; rw [if_neg (by exact c4), hcp]; rfl
    · simp only [S_back]; rw [if_neg (by exact c4)]; refine Rel.of ?_
      have e1 : ka_1 = up1 ka 1000 (cpT (ka 1001) (ka 1000)) := by
        funext j; by_cases hj : j = 1000
        · subst hj; rw [up1_s]; exact hcp
        · rw [up1_a _ _ hj]; exact hq j (fun z => hj (List.mem_singleton.mp z))
      rw [e1, sg_up1 _ 0]; rfl
  · refine lv_ldcw hx hb B.2.2.2.1 (B.ts _ q1835) dX3_back_7 ?_
    refine r_iret B hr hM dX3_back_10 ?_
    constructor
    · simp only [A_back, sg0, sg1, sg7, sg25, sg26, sg27, sg28, sg29, sg30, sg31, sg33, sg99] <;> grind
    · refine Rel.of ?_; simp only [S_back, sg0, sg1, sg7, sg25, sg26, sg27, sg28, sg29, sg30, sg31, sg33, sg99] <;> grind
set_option maxHeartbeats 4000000 in
theorem ok_tell (hL : LayM th rh y0 ay) (hS : Sok (sg ka)) (v : Int32) : Met l yX3_tell (ws_ yX3_tell cX3_tell 2 (some .int)) (RM 1 0 0) (Pc_ G [.ref y0, .int v] th rh ph ka) (Qi G th rh ph (fun r ka' => r = A_tell (sg ka) v ∧ Rel (S_tell (sg ka) v) (sg ka'))) 0 0 (frG G) := by
  refine m_of (by decide) (Nat.le_of_ble_eq_true rfl) ?_
  intro p_ e_ s_ m_ below_ meth_ c_ B hr hnm ls hl hM
  have hx := B.1
  have hb := B.2.1
  have hM := hM
  obtain ⟨wt, hwt60, hwt⟩ := hS.2.2.2.2.1
  have hwt : ka 1099 34 = nI wt := hwt
  refine lv_aload_n hx hb dX3_tell_0 rfl (lv_at hl 0 rfl) ?_
  refine r_geti B hM 34 hL.1 rfl (by decide) rfl rfl q1416 dX3_tell_1 ?_
  refine lv_bipush (v := 60) hx hb dX3_tell_4 (by decide) ?_
  refine lv_icmp_ne (tgt := 12) hx hb dX3_tell_6 (by decide) (fun c6 => ?_) (fun c6 => ?_)
  · have n6 : wt ≠ 60 := ntNe (by rw [hwt]) rfl (by omega) (by omega) c6
    refine lv_aload_n hx hb dX3_tell_12 rfl (lv_at hl 0 rfl) ?_
    refine r_getq B hM 33 hL.1 rfl (by decide) rfl rfl (hL.2 33 _ _ rfl).1 q1415 dX3_tell_13 ?_
    refine lv_aload_n hx hb dX3_tell_16 rfl (lv_at hl 0 rfl) ?_
    refine r_geti B hM 34 hL.1 rfl (by decide) rfl rfl q1416 dX3_tell_17 ?_
    refine lv_iload_n hx hb dX3_tell_20 rfl (lv_at hl 1 rfl) ?_
    refine r_ist B hM wt (hL.2 33 _ _ rfl).2 (by rw [hwt]) (by omega) (by decide) dX3_tell_21 (fun ka_1 H locs eka_1 hM => ?_)
    refine lv_aload_n hx hb dX3_tell_22 rfl (lv_at hl 0 rfl) ?_
    refine lv_dup hx hb dX3_tell_23 rfl ?_
    refine r_geti B hM 34 hL.1 rfl (by decide) rfl rfl q1416 dX3_tell_24 ?_
    refine r_topv (v := ka 1099 34) (by rw [eka_1, up2_a _ _ _ (by decide)]) ?_
    refine lv_iconst (v := 1) hx hb dX3_tell_27 (by decide) ?_
    refine lv_iadd hx hb dX3_tell_28 ?_
    refine r_puti B hM 34 hL.1 rfl (by decide) rfl rfl q1416 dX3_tell_29 (fun ka_2 H locs eka_2 hM => ?_)
    refine lv_aload_n hx hb dX3_tell_32 rfl (lv_at hl 0 rfl) ?_
    refine r_geti B hM 34 hL.1 rfl (by decide) rfl rfl q1416 dX3_tell_33 ?_
    refine r_topv (v := (ka 1099 34) + 1) (by rw [eka_2, up2_s]) ?_
    refine r_iret B hr hM dX3_tell_36 ?_
    constructor
    · show _ = A_tell (sg ka) v; unfold A_tell; rw [if_neg (by exact c6)]; simp only [sg99, hwt]
    · refine Rel.of ?_; simp only [S_tell]; rw [if_neg (by exact c6)]; simp only [eka_2, eka_1]; rw [sg_up2 _ 99, sg_up2 _ 33]; simp only [sg99, hwt, cl_nI (show wt < 2 ^ 31 by omega)]
  · have n6 : wt = 60 := ntEq (by rw [hwt]) rfl (by omega) (by omega) c6
    refine lv_ldc hx hb B.2.2.2.1 (B.ts _ q1497) dX3_tell_9 ?_
    refine r_iret B hr hM dX3_tell_11 ?_
    constructor
    · simp only [A_tell, sg0, sg1, sg7, sg25, sg26, sg27, sg28, sg29, sg30, sg31, sg33, sg99] <;> grind
    · refine Rel.of ?_; simp only [S_tell, sg0, sg1, sg7, sg25, sg26, sg27, sg28, sg29, sg30, sg31, sg33, sg99] <;> grind
set_option maxHeartbeats 4000000 in
theorem ok_mark (hL : LayM th rh y0 ay) (hS : Sok (sg ka)) (sh q v : Int32) : Met l yX3_mark (ws_ yX3_mark cX3_mark 4 (some .int)) (RM 3 0 0) (Pc_ G [.ref y0, .int sh, .int q, .int v] th rh ph ka) (Qi G th rh ph (fun r ka' => r = A_mark (sg ka) sh q v ∧ Rel (S_mark (sg ka) sh q v) (sg ka'))) 0 0 (frG G) := by
  refine m_of (by decide) (Nat.le_of_ble_eq_true rfl) ?_
  intro p_ e_ s_ m_ below_ meth_ c_ B hr hnm ls hl hM
  have hx := B.1
  have hb := B.2.1
  have hM := hM
  refine lv_iload_n hx hb dX3_mark_0 rfl (lv_at hl 1 rfl) ?_
  refine k_pb (r_S (As := [.int sh]) (rest := []) B hM (ok_isSheet sh) cal_X3_isSheet q1710 rfl hl.1 (Nat.le_of_ble_eq_true rfl) dX3_mark_1 ⟨Nat.le_of_ble_eq_true rfl, Nat.le_of_ble_eq_true rfl⟩ ⟨Nat.le_of_ble_eq_true rfl, Nat.le_of_ble_eq_true rfl⟩) hM (fun H locs b1 hM => ?_) (fun H locs b1 hM => ?_)
  · obtain ⟨ksh, hksh, rfl⟩ := b1
    have hinksh : inC (nI ksh) (4) := (inC_iff (by omega)).mpr ⟨ksh, hksh, rfl⟩
    have hclksh : cl (nI ksh) = ksh := cl_nI (by omega)
    refine lv_if_ne (tgt := 10) hx hb dX3_mark_4 (by decide) (fun c4 => ?_) (fun cZ => absurd cZ (by decide))
    refine lv_aload_n hx hb dX3_mark_10 rfl (lv_at hl 0 rfl) ?_
    refine r_getq B hM 25 hL.1 rfl (by decide) rfl rfl (hL.2 25 _ _ rfl).1 q1407 dX3_mark_11 ?_
    refine lv_iload_n hx hb dX3_mark_14 rfl (lv_at hl 1 rfl) ?_
    refine r_ild B hM ksh (hL.2 25 _ _ rfl).2 rfl (by omega) (by decide) dX3_mark_15 ?_
    refine lv_if_ge (tgt := 22) hx hb dX3_mark_16 (by decide) (fun c16 => ?_) (fun c16 => ?_)
    · refine lv_iload_n hx hb dX3_mark_22 rfl (lv_at hl 2 rfl) ?_
      refine lv_iconst (v := 0) hx hb dX3_mark_23 (by decide) ?_
      refine lv_aload_n hx hb dX3_mark_24 rfl (lv_at hl 0 rfl) ?_
      refine r_getq B hM 26 hL.1 rfl (by decide) rfl rfl (hL.2 26 _ _ rfl).1 q1408 dX3_mark_25 ?_
      refine lv_iload_n hx hb dX3_mark_28 rfl (lv_at hl 1 rfl) ?_
      refine r_ild B hM ksh (hL.2 26 _ _ rfl).2 rfl (by omega) (by decide) dX3_mark_29 ?_
      refine lv_iconst (v := 1) hx hb dX3_mark_30 (by decide) ?_
      refine lv_isub hx hb dX3_mark_31 ?_
      refine k_pb (r_S (As := [.int q, .int 0, .int ((ka 1026 ksh) - 1)]) (rest := []) B hM (ok_in q 0 ((ka 1026 ksh) - 1)) cal_X3_in q1493 rfl hl.1 (Nat.le_of_ble_eq_true rfl) dX3_mark_32 ⟨Nat.le_of_ble_eq_true rfl, Nat.le_of_ble_eq_true rfl⟩ ⟨Nat.le_of_ble_eq_true rfl, Nat.le_of_ble_eq_true rfl⟩) hM (fun H locs b32 hM => ?_) (fun H locs b32 hM => ?_)
      · refine lv_if_ne (tgt := 42) hx hb dX3_mark_35 (by decide) (fun c35 => ?_) (fun cZ => absurd cZ (by decide))
        obtain ⟨z, hz24, hz⟩ := hS.sz hksh
        obtain ⟨kq, hkq, rfl⟩ := (isC_iff' hz (by omega)).mp b32
        have hclkq : cl (nI kq) = kq := cl_nI (by omega)
        refine lv_aload_n hx hb dX3_mark_42 rfl (lv_at hl 0 rfl) ?_
        refine r_getq B hM 25 hL.1 rfl (by decide) rfl rfl (hL.2 25 _ _ rfl).1 q1407 dX3_mark_43 ?_
        refine lv_iload_n hx hb dX3_mark_46 rfl (lv_at hl 1 rfl) ?_
        refine r_ild B hM ksh (hL.2 25 _ _ rfl).2 rfl (by omega) (by decide) dX3_mark_47 ?_
        refine lv_if_ne (tgt := 60) hx hb dX3_mark_48 (by decide) (fun c48 => ?_) (fun c48 => ?_)
        · refine lv_aload_n hx hb dX3_mark_60 rfl (lv_at hl 0 rfl) ?_
          refine r_getq B hM 25 hL.1 rfl (by decide) rfl rfl (hL.2 25 _ _ rfl).1 q1407 dX3_mark_61 ?_
          refine lv_iload_n hx hb dX3_mark_64 rfl (lv_at hl 1 rfl) ?_
          refine r_ild B hM ksh (hL.2 25 _ _ rfl).2 rfl (by omega) (by decide) dX3_mark_65 ?_
          refine lv_iconst (v := 1) hx hb dX3_mark_66 (by decide) ?_
          refine lv_icmp_ne (tgt := 92) hx hb dX3_mark_67 (by decide) (fun c67 => ?_) (fun c67 => ?_)
          · refine lv_aload_n hx hb dX3_mark_92 rfl (lv_at hl 0 rfl) ?_
            refine r_getq B hM 27 hL.1 rfl (by decide) rfl rfl (hL.2 27 _ _ rfl).1 q1409 dX3_mark_93 ?_
            refine lv_bipush (v := 24) hx hb dX3_mark_96 (by decide) ?_
            refine lv_iload_n hx hb dX3_mark_98 rfl (lv_at hl 1 rfl) ?_
            refine lv_imul hx hb dX3_mark_99 ?_
            refine lv_iload_n hx hb dX3_mark_100 rfl (lv_at hl 2 rfl) ?_
            refine lv_iadd hx hb dX3_mark_101 ?_
            refine lv_aload_n hx hb dX3_mark_102 rfl (lv_at hl 0 rfl) ?_
            refine r_getq B hM 25 hL.1 rfl (by decide) rfl rfl (hL.2 25 _ _ rfl).1 q1407 dX3_mark_103 ?_
            refine lv_iload_n hx hb dX3_mark_106 rfl (lv_at hl 1 rfl) ?_
            refine r_ild B hM ksh (hL.2 25 _ _ rfl).2 rfl (by omega) (by decide) dX3_mark_107 ?_
            refine lv_if_ne (tgt := 116) hx hb dX3_mark_108 (by decide) (fun c108 => ?_) (fun c108 => ?_)
            · refine lv_iload_n hx hb dX3_mark_116 rfl (lv_at hl 3 rfl) ?_
              refine r_ist B hM (24 * ksh + kq) (hL.2 27 _ _ rfl).2 (by simp only [nA, nMu, nL]) (by omega) (by decide) dX3_mark_117 (fun ka_1 H locs eka_1 hM => ?_)
              refine lv_iconst (v := 1) hx hb dX3_mark_118 (by decide) ?_
              refine r_iret B hr hM dX3_mark_119 ?_
              have hA : A_mark (sg ka) (nI ksh) (nI kq) v = 1 := by simp only [A_mark, sg0, sg1, sg7, sg25, sg26, sg27, sg28, sg29, sg30, sg31, sg33, sg99, hclksh, hclkq] <;> grind
              constructor
              · exact hA.symm
              · refine Rel.of ?_; rw [eka_1]; simp only [S_mark]; rw [if_pos hA, sg_up2 _ 27]; simp only [sg0, sg1, sg7, sg25, sg26, sg27, sg28, sg29, sg30, sg31, sg33, sg99, hclksh, hclkq]; grind
            · refine lv_iload_n hx hb dX3_mark_111 rfl (lv_at hl 3 rfl) ?_
              refine lv_i2s hx hb dX3_mark_112 rfl ?_
              refine lv_goto (tgt := 117) hx hb dX3_mark_113 (by decide) ?_
              refine r_ist B hM (24 * ksh + kq) (hL.2 27 _ _ rfl).2 (by simp only [nA, nMu, nL]) (by omega) (by decide) dX3_mark_117 (fun ka_2 H locs eka_2 hM => ?_)
              refine lv_iconst (v := 1) hx hb dX3_mark_118 (by decide) ?_
              refine r_iret B hr hM dX3_mark_119 ?_
              have hA : A_mark (sg ka) (nI ksh) (nI kq) v = 1 := by simp only [A_mark, sg0, sg1, sg7, sg25, sg26, sg27, sg28, sg29, sg30, sg31, sg33, sg99, hclksh, hclkq] <;> grind
              constructor
              · exact hA.symm
              · refine Rel.of ?_; rw [eka_2]; simp only [S_mark]; rw [if_pos hA, sg_up2 _ 27]; simp only [sg0, sg1, sg7, sg25, sg26, sg27, sg28, sg29, sg30, sg31, sg33, sg99, hclksh, hclkq]; grind
          · refine lv_iload_n hx hb dX3_mark_70 rfl (lv_at hl 3 rfl) ?_
            refine lv_ldc hx hb B.2.2.2.1 (B.ts _ q1681) dX3_mark_71 ?_
            refine lv_icmp_eq (tgt := 92) hx hb dX3_mark_73 (by decide) (fun c73 => ?_) (fun c73 => ?_)
            · refine lv_aload_n hx hb dX3_mark_92 rfl (lv_at hl 0 rfl) ?_
              refine r_getq B hM 27 hL.1 rfl (by decide) rfl rfl (hL.2 27 _ _ rfl).1 q1409 dX3_mark_93 ?_
              refine lv_bipush (v := 24) hx hb dX3_mark_96 (by decide) ?_
              refine lv_iload_n hx hb dX3_mark_98 rfl (lv_at hl 1 rfl) ?_
              refine lv_imul hx hb dX3_mark_99 ?_
              refine lv_iload_n hx hb dX3_mark_100 rfl (lv_at hl 2 rfl) ?_
              refine lv_iadd hx hb dX3_mark_101 ?_
              refine lv_aload_n hx hb dX3_mark_102 rfl (lv_at hl 0 rfl) ?_
              refine r_getq B hM 25 hL.1 rfl (by decide) rfl rfl (hL.2 25 _ _ rfl).1 q1407 dX3_mark_103 ?_
              refine lv_iload_n hx hb dX3_mark_106 rfl (lv_at hl 1 rfl) ?_
              refine r_ild B hM ksh (hL.2 25 _ _ rfl).2 rfl (by omega) (by decide) dX3_mark_107 ?_
              refine lv_if_ne (tgt := 116) hx hb dX3_mark_108 (by decide) (fun c108 => ?_) (fun c108 => ?_)
              · refine lv_iload_n hx hb dX3_mark_116 rfl (lv_at hl 3 rfl) ?_
                refine r_ist B hM (24 * ksh + kq) (hL.2 27 _ _ rfl).2 (by simp only [nA, nMu, nL]) (by omega) (by decide) dX3_mark_117 (fun ka_3 H locs eka_3 hM => ?_)
                refine lv_iconst (v := 1) hx hb dX3_mark_118 (by decide) ?_
                refine r_iret B hr hM dX3_mark_119 ?_
                have hA : A_mark (sg ka) (nI ksh) (nI kq) v = 1 := by simp only [A_mark, sg0, sg1, sg7, sg25, sg26, sg27, sg28, sg29, sg30, sg31, sg33, sg99, hclksh, hclkq] <;> grind
                constructor
                · exact hA.symm
                · refine Rel.of ?_; rw [eka_3]; simp only [S_mark]; rw [if_pos hA, sg_up2 _ 27]; simp only [sg0, sg1, sg7, sg25, sg26, sg27, sg28, sg29, sg30, sg31, sg33, sg99, hclksh, hclkq]; grind
              · refine lv_iload_n hx hb dX3_mark_111 rfl (lv_at hl 3 rfl) ?_
                refine lv_i2s hx hb dX3_mark_112 rfl ?_
                refine lv_goto (tgt := 117) hx hb dX3_mark_113 (by decide) ?_
                refine r_ist B hM (24 * ksh + kq) (hL.2 27 _ _ rfl).2 (by simp only [nA, nMu, nL]) (by omega) (by decide) dX3_mark_117 (fun ka_4 H locs eka_4 hM => ?_)
                refine lv_iconst (v := 1) hx hb dX3_mark_118 (by decide) ?_
                refine r_iret B hr hM dX3_mark_119 ?_
                have hA : A_mark (sg ka) (nI ksh) (nI kq) v = 1 := by simp only [A_mark, sg0, sg1, sg7, sg25, sg26, sg27, sg28, sg29, sg30, sg31, sg33, sg99, hclksh, hclkq] <;> grind
                constructor
                · exact hA.symm
                · refine Rel.of ?_; rw [eka_4]; simp only [S_mark]; rw [if_pos hA, sg_up2 _ 27]; simp only [sg0, sg1, sg7, sg25, sg26, sg27, sg28, sg29, sg30, sg31, sg33, sg99, hclksh, hclkq]; grind
            · refine lv_iload_n hx hb dX3_mark_76 rfl (lv_at hl 3 rfl) ?_
              refine lv_ldcw hx hb B.2.2.2.1 (B.ts _ q1802) dX3_mark_77 ?_
              refine lv_ldcw hx hb B.2.2.2.1 (B.ts _ q1803) dX3_mark_80 ?_
              refine k_pb (r_S (As := [.int v, .int (-99999), .int 99999]) (rest := []) B hM (ok_in v (-99999) 99999) cal_X3_in q1493 rfl hl.1 (Nat.le_of_ble_eq_true rfl) dX3_mark_83 ⟨Nat.le_of_ble_eq_true rfl, Nat.le_of_ble_eq_true rfl⟩ ⟨Nat.le_of_ble_eq_true rfl, Nat.le_of_ble_eq_true rfl⟩) hM (fun H locs b83 hM => ?_) (fun H locs b83 hM => ?_)
              · refine lv_if_ne (tgt := 92) hx hb dX3_mark_86 (by decide) (fun c86 => ?_) (fun cZ => absurd cZ (by decide))
                refine lv_aload_n hx hb dX3_mark_92 rfl (lv_at hl 0 rfl) ?_
                refine r_getq B hM 27 hL.1 rfl (by decide) rfl rfl (hL.2 27 _ _ rfl).1 q1409 dX3_mark_93 ?_
                refine lv_bipush (v := 24) hx hb dX3_mark_96 (by decide) ?_
                refine lv_iload_n hx hb dX3_mark_98 rfl (lv_at hl 1 rfl) ?_
                refine lv_imul hx hb dX3_mark_99 ?_
                refine lv_iload_n hx hb dX3_mark_100 rfl (lv_at hl 2 rfl) ?_
                refine lv_iadd hx hb dX3_mark_101 ?_
                refine lv_aload_n hx hb dX3_mark_102 rfl (lv_at hl 0 rfl) ?_
                refine r_getq B hM 25 hL.1 rfl (by decide) rfl rfl (hL.2 25 _ _ rfl).1 q1407 dX3_mark_103 ?_
                refine lv_iload_n hx hb dX3_mark_106 rfl (lv_at hl 1 rfl) ?_
                refine r_ild B hM ksh (hL.2 25 _ _ rfl).2 rfl (by omega) (by decide) dX3_mark_107 ?_
                refine lv_if_ne (tgt := 116) hx hb dX3_mark_108 (by decide) (fun c108 => ?_) (fun c108 => ?_)
                · refine lv_iload_n hx hb dX3_mark_116 rfl (lv_at hl 3 rfl) ?_
                  refine r_ist B hM (24 * ksh + kq) (hL.2 27 _ _ rfl).2 (by simp only [nA, nMu, nL]) (by omega) (by decide) dX3_mark_117 (fun ka_5 H locs eka_5 hM => ?_)
                  refine lv_iconst (v := 1) hx hb dX3_mark_118 (by decide) ?_
                  refine r_iret B hr hM dX3_mark_119 ?_
                  have hA : A_mark (sg ka) (nI ksh) (nI kq) v = 1 := by simp only [A_mark, sg0, sg1, sg7, sg25, sg26, sg27, sg28, sg29, sg30, sg31, sg33, sg99, hclksh, hclkq] <;> grind
                  constructor
                  · exact hA.symm
                  · refine Rel.of ?_; rw [eka_5]; simp only [S_mark]; rw [if_pos hA, sg_up2 _ 27]; simp only [sg0, sg1, sg7, sg25, sg26, sg27, sg28, sg29, sg30, sg31, sg33, sg99, hclksh, hclkq]; grind
                · refine lv_iload_n hx hb dX3_mark_111 rfl (lv_at hl 3 rfl) ?_
                  refine lv_i2s hx hb dX3_mark_112 rfl ?_
                  refine lv_goto (tgt := 117) hx hb dX3_mark_113 (by decide) ?_
                  refine r_ist B hM (24 * ksh + kq) (hL.2 27 _ _ rfl).2 (by simp only [nA, nMu, nL]) (by omega) (by decide) dX3_mark_117 (fun ka_6 H locs eka_6 hM => ?_)
                  refine lv_iconst (v := 1) hx hb dX3_mark_118 (by decide) ?_
                  refine r_iret B hr hM dX3_mark_119 ?_
                  have hA : A_mark (sg ka) (nI ksh) (nI kq) v = 1 := by simp only [A_mark, sg0, sg1, sg7, sg25, sg26, sg27, sg28, sg29, sg30, sg31, sg33, sg99, hclksh, hclkq] <;> grind
                  constructor
                  · exact hA.symm
                  · refine Rel.of ?_; rw [eka_6]; simp only [S_mark]; rw [if_pos hA, sg_up2 _ 27]; simp only [sg0, sg1, sg7, sg25, sg26, sg27, sg28, sg29, sg30, sg31, sg33, sg99, hclksh, hclkq]; grind
              · refine lv_if_ne (tgt := 92) hx hb dX3_mark_86 (by decide) (fun cZ => absurd (by decide) cZ) (fun c86 => ?_)
                refine lv_ldc hx hb B.2.2.2.1 (B.ts _ q1496) dX3_mark_89 ?_
                refine r_iret B hr hM dX3_mark_91 ?_
                have hA : A_mark (sg ka) (nI ksh) (nI kq) v = (-1000000001) := by simp only [A_mark, sg0, sg1, sg7, sg25, sg26, sg27, sg28, sg29, sg30, sg31, sg33, sg99, hclksh, hclkq] <;> grind
                constructor
                · exact hA.symm
                · refine Rel.of ?_; rw [S_mark, hA, if_neg (by decide)]
        · refine lv_iload_n hx hb dX3_mark_51 rfl (lv_at hl 3 rfl) ?_
          refine lv_ldc hx hb B.2.2.2.1 (B.ts _ q1681) dX3_mark_52 ?_
          refine lv_icmp_ne (tgt := 60) hx hb dX3_mark_54 (by decide) (fun c54 => ?_) (fun c54 => ?_)
          · refine lv_aload_n hx hb dX3_mark_60 rfl (lv_at hl 0 rfl) ?_
            refine r_getq B hM 25 hL.1 rfl (by decide) rfl rfl (hL.2 25 _ _ rfl).1 q1407 dX3_mark_61 ?_
            refine lv_iload_n hx hb dX3_mark_64 rfl (lv_at hl 1 rfl) ?_
            refine r_ild B hM ksh (hL.2 25 _ _ rfl).2 rfl (by omega) (by decide) dX3_mark_65 ?_
            refine lv_iconst (v := 1) hx hb dX3_mark_66 (by decide) ?_
            refine lv_icmp_ne (tgt := 92) hx hb dX3_mark_67 (by decide) (fun c67 => ?_) (fun c67 => ?_)
            · refine lv_aload_n hx hb dX3_mark_92 rfl (lv_at hl 0 rfl) ?_
              refine r_getq B hM 27 hL.1 rfl (by decide) rfl rfl (hL.2 27 _ _ rfl).1 q1409 dX3_mark_93 ?_
              refine lv_bipush (v := 24) hx hb dX3_mark_96 (by decide) ?_
              refine lv_iload_n hx hb dX3_mark_98 rfl (lv_at hl 1 rfl) ?_
              refine lv_imul hx hb dX3_mark_99 ?_
              refine lv_iload_n hx hb dX3_mark_100 rfl (lv_at hl 2 rfl) ?_
              refine lv_iadd hx hb dX3_mark_101 ?_
              refine lv_aload_n hx hb dX3_mark_102 rfl (lv_at hl 0 rfl) ?_
              refine r_getq B hM 25 hL.1 rfl (by decide) rfl rfl (hL.2 25 _ _ rfl).1 q1407 dX3_mark_103 ?_
              refine lv_iload_n hx hb dX3_mark_106 rfl (lv_at hl 1 rfl) ?_
              refine r_ild B hM ksh (hL.2 25 _ _ rfl).2 rfl (by omega) (by decide) dX3_mark_107 ?_
              refine lv_if_ne (tgt := 116) hx hb dX3_mark_108 (by decide) (fun c108 => ?_) (fun c108 => ?_)
              · refine lv_iload_n hx hb dX3_mark_116 rfl (lv_at hl 3 rfl) ?_
                refine r_ist B hM (24 * ksh + kq) (hL.2 27 _ _ rfl).2 (by simp only [nA, nMu, nL]) (by omega) (by decide) dX3_mark_117 (fun ka_7 H locs eka_7 hM => ?_)
                refine lv_iconst (v := 1) hx hb dX3_mark_118 (by decide) ?_
                refine r_iret B hr hM dX3_mark_119 ?_
                have hA : A_mark (sg ka) (nI ksh) (nI kq) v = 1 := by simp only [A_mark, sg0, sg1, sg7, sg25, sg26, sg27, sg28, sg29, sg30, sg31, sg33, sg99, hclksh, hclkq] <;> grind
                constructor
                · exact hA.symm
                · refine Rel.of ?_; rw [eka_7]; simp only [S_mark]; rw [if_pos hA, sg_up2 _ 27]; simp only [sg0, sg1, sg7, sg25, sg26, sg27, sg28, sg29, sg30, sg31, sg33, sg99, hclksh, hclkq]; grind
              · refine lv_iload_n hx hb dX3_mark_111 rfl (lv_at hl 3 rfl) ?_
                refine lv_i2s hx hb dX3_mark_112 rfl ?_
                refine lv_goto (tgt := 117) hx hb dX3_mark_113 (by decide) ?_
                refine r_ist B hM (24 * ksh + kq) (hL.2 27 _ _ rfl).2 (by simp only [nA, nMu, nL]) (by omega) (by decide) dX3_mark_117 (fun ka_8 H locs eka_8 hM => ?_)
                refine lv_iconst (v := 1) hx hb dX3_mark_118 (by decide) ?_
                refine r_iret B hr hM dX3_mark_119 ?_
                have hA : A_mark (sg ka) (nI ksh) (nI kq) v = 1 := by simp only [A_mark, sg0, sg1, sg7, sg25, sg26, sg27, sg28, sg29, sg30, sg31, sg33, sg99, hclksh, hclkq] <;> grind
                constructor
                · exact hA.symm
                · refine Rel.of ?_; rw [eka_8]; simp only [S_mark]; rw [if_pos hA, sg_up2 _ 27]; simp only [sg0, sg1, sg7, sg25, sg26, sg27, sg28, sg29, sg30, sg31, sg33, sg99, hclksh, hclkq]; grind
            · refine lv_iload_n hx hb dX3_mark_70 rfl (lv_at hl 3 rfl) ?_
              refine lv_ldc hx hb B.2.2.2.1 (B.ts _ q1681) dX3_mark_71 ?_
              refine lv_icmp_eq (tgt := 92) hx hb dX3_mark_73 (by decide) (fun c73 => ?_) (fun c73 => ?_)
              · refine lv_aload_n hx hb dX3_mark_92 rfl (lv_at hl 0 rfl) ?_
                refine r_getq B hM 27 hL.1 rfl (by decide) rfl rfl (hL.2 27 _ _ rfl).1 q1409 dX3_mark_93 ?_
                refine lv_bipush (v := 24) hx hb dX3_mark_96 (by decide) ?_
                refine lv_iload_n hx hb dX3_mark_98 rfl (lv_at hl 1 rfl) ?_
                refine lv_imul hx hb dX3_mark_99 ?_
                refine lv_iload_n hx hb dX3_mark_100 rfl (lv_at hl 2 rfl) ?_
                refine lv_iadd hx hb dX3_mark_101 ?_
                refine lv_aload_n hx hb dX3_mark_102 rfl (lv_at hl 0 rfl) ?_
                refine r_getq B hM 25 hL.1 rfl (by decide) rfl rfl (hL.2 25 _ _ rfl).1 q1407 dX3_mark_103 ?_
                refine lv_iload_n hx hb dX3_mark_106 rfl (lv_at hl 1 rfl) ?_
                refine r_ild B hM ksh (hL.2 25 _ _ rfl).2 rfl (by omega) (by decide) dX3_mark_107 ?_
                refine lv_if_ne (tgt := 116) hx hb dX3_mark_108 (by decide) (fun c108 => ?_) (fun c108 => ?_)
                · refine lv_iload_n hx hb dX3_mark_116 rfl (lv_at hl 3 rfl) ?_
                  refine r_ist B hM (24 * ksh + kq) (hL.2 27 _ _ rfl).2 (by simp only [nA, nMu, nL]) (by omega) (by decide) dX3_mark_117 (fun ka_9 H locs eka_9 hM => ?_)
                  refine lv_iconst (v := 1) hx hb dX3_mark_118 (by decide) ?_
                  refine r_iret B hr hM dX3_mark_119 ?_
                  have hA : A_mark (sg ka) (nI ksh) (nI kq) v = 1 := by simp only [A_mark, sg0, sg1, sg7, sg25, sg26, sg27, sg28, sg29, sg30, sg31, sg33, sg99, hclksh, hclkq] <;> grind
                  constructor
                  · exact hA.symm
                  · refine Rel.of ?_; rw [eka_9]; simp only [S_mark]; rw [if_pos hA, sg_up2 _ 27]; simp only [sg0, sg1, sg7, sg25, sg26, sg27, sg28, sg29, sg30, sg31, sg33, sg99, hclksh, hclkq]; grind
                · refine lv_iload_n hx hb dX3_mark_111 rfl (lv_at hl 3 rfl) ?_
                  refine lv_i2s hx hb dX3_mark_112 rfl ?_
                  refine lv_goto (tgt := 117) hx hb dX3_mark_113 (by decide) ?_
                  refine r_ist B hM (24 * ksh + kq) (hL.2 27 _ _ rfl).2 (by simp only [nA, nMu, nL]) (by omega) (by decide) dX3_mark_117 (fun ka_10 H locs eka_10 hM => ?_)
                  refine lv_iconst (v := 1) hx hb dX3_mark_118 (by decide) ?_
                  refine r_iret B hr hM dX3_mark_119 ?_
                  have hA : A_mark (sg ka) (nI ksh) (nI kq) v = 1 := by simp only [A_mark, sg0, sg1, sg7, sg25, sg26, sg27, sg28, sg29, sg30, sg31, sg33, sg99, hclksh, hclkq] <;> grind
                  constructor
                  · exact hA.symm
                  · refine Rel.of ?_; rw [eka_10]; simp only [S_mark]; rw [if_pos hA, sg_up2 _ 27]; simp only [sg0, sg1, sg7, sg25, sg26, sg27, sg28, sg29, sg30, sg31, sg33, sg99, hclksh, hclkq]; grind
              · refine lv_iload_n hx hb dX3_mark_76 rfl (lv_at hl 3 rfl) ?_
                refine lv_ldcw hx hb B.2.2.2.1 (B.ts _ q1802) dX3_mark_77 ?_
                refine lv_ldcw hx hb B.2.2.2.1 (B.ts _ q1803) dX3_mark_80 ?_
                refine k_pb (r_S (As := [.int v, .int (-99999), .int 99999]) (rest := []) B hM (ok_in v (-99999) 99999) cal_X3_in q1493 rfl hl.1 (Nat.le_of_ble_eq_true rfl) dX3_mark_83 ⟨Nat.le_of_ble_eq_true rfl, Nat.le_of_ble_eq_true rfl⟩ ⟨Nat.le_of_ble_eq_true rfl, Nat.le_of_ble_eq_true rfl⟩) hM (fun H locs b83 hM => ?_) (fun H locs b83 hM => ?_)
                · refine lv_if_ne (tgt := 92) hx hb dX3_mark_86 (by decide) (fun c86 => ?_) (fun cZ => absurd cZ (by decide))
                  refine lv_aload_n hx hb dX3_mark_92 rfl (lv_at hl 0 rfl) ?_
                  refine r_getq B hM 27 hL.1 rfl (by decide) rfl rfl (hL.2 27 _ _ rfl).1 q1409 dX3_mark_93 ?_
                  refine lv_bipush (v := 24) hx hb dX3_mark_96 (by decide) ?_
                  refine lv_iload_n hx hb dX3_mark_98 rfl (lv_at hl 1 rfl) ?_
                  refine lv_imul hx hb dX3_mark_99 ?_
                  refine lv_iload_n hx hb dX3_mark_100 rfl (lv_at hl 2 rfl) ?_
                  refine lv_iadd hx hb dX3_mark_101 ?_
                  refine lv_aload_n hx hb dX3_mark_102 rfl (lv_at hl 0 rfl) ?_
                  refine r_getq B hM 25 hL.1 rfl (by decide) rfl rfl (hL.2 25 _ _ rfl).1 q1407 dX3_mark_103 ?_
                  refine lv_iload_n hx hb dX3_mark_106 rfl (lv_at hl 1 rfl) ?_
                  refine r_ild B hM ksh (hL.2 25 _ _ rfl).2 rfl (by omega) (by decide) dX3_mark_107 ?_
                  refine lv_if_ne (tgt := 116) hx hb dX3_mark_108 (by decide) (fun c108 => ?_) (fun c108 => ?_)
                  · refine lv_iload_n hx hb dX3_mark_116 rfl (lv_at hl 3 rfl) ?_
                    refine r_ist B hM (24 * ksh + kq) (hL.2 27 _ _ rfl).2 (by simp only [nA, nMu, nL]) (by omega) (by decide) dX3_mark_117 (fun ka_11 H locs eka_11 hM => ?_)
                    refine lv_iconst (v := 1) hx hb dX3_mark_118 (by decide) ?_
                    refine r_iret B hr hM dX3_mark_119 ?_
                    have hA : A_mark (sg ka) (nI ksh) (nI kq) v = 1 := by simp only [A_mark, sg0, sg1, sg7, sg25, sg26, sg27, sg28, sg29, sg30, sg31, sg33, sg99, hclksh, hclkq] <;> grind
                    constructor
                    · exact hA.symm
                    · refine Rel.of ?_; rw [eka_11]; simp only [S_mark]; rw [if_pos hA, sg_up2 _ 27]; simp only [sg0, sg1, sg7, sg25, sg26, sg27, sg28, sg29, sg30, sg31, sg33, sg99, hclksh, hclkq]; grind
                  · refine lv_iload_n hx hb dX3_mark_111 rfl (lv_at hl 3 rfl) ?_
                    refine lv_i2s hx hb dX3_mark_112 rfl ?_
                    refine lv_goto (tgt := 117) hx hb dX3_mark_113 (by decide) ?_
                    refine r_ist B hM (24 * ksh + kq) (hL.2 27 _ _ rfl).2 (by simp only [nA, nMu, nL]) (by omega) (by decide) dX3_mark_117 (fun ka_12 H locs eka_12 hM => ?_)
                    refine lv_iconst (v := 1) hx hb dX3_mark_118 (by decide) ?_
                    refine r_iret B hr hM dX3_mark_119 ?_
                    have hA : A_mark (sg ka) (nI ksh) (nI kq) v = 1 := by simp only [A_mark, sg0, sg1, sg7, sg25, sg26, sg27, sg28, sg29, sg30, sg31, sg33, sg99, hclksh, hclkq] <;> grind
                    constructor
                    · exact hA.symm
                    · refine Rel.of ?_; rw [eka_12]; simp only [S_mark]; rw [if_pos hA, sg_up2 _ 27]; simp only [sg0, sg1, sg7, sg25, sg26, sg27, sg28, sg29, sg30, sg31, sg33, sg99, hclksh, hclkq]; grind
                · refine lv_if_ne (tgt := 92) hx hb dX3_mark_86 (by decide) (fun cZ => absurd (by decide) cZ) (fun c86 => ?_)
                  refine lv_ldc hx hb B.2.2.2.1 (B.ts _ q1496) dX3_mark_89 ?_
                  refine r_iret B hr hM dX3_mark_91 ?_
                  have hA : A_mark (sg ka) (nI ksh) (nI kq) v = (-1000000001) := by simp only [A_mark, sg0, sg1, sg7, sg25, sg26, sg27, sg28, sg29, sg30, sg31, sg33, sg99, hclksh, hclkq] <;> grind
                  constructor
                  · exact hA.symm
                  · refine Rel.of ?_; rw [S_mark, hA, if_neg (by decide)]
          · refine lv_ldc hx hb B.2.2.2.1 (B.ts _ q1563) dX3_mark_57 ?_
            refine r_iret B hr hM dX3_mark_59 ?_
            have hA : A_mark (sg ka) (nI ksh) (nI kq) v = (-1000000012) := by simp only [A_mark, sg0, sg1, sg7, sg25, sg26, sg27, sg28, sg29, sg30, sg31, sg33, sg99, hclksh, hclkq] <;> grind
            constructor
            · exact hA.symm
            · refine Rel.of ?_; rw [S_mark, hA, if_neg (by decide)]
      · refine lv_if_ne (tgt := 42) hx hb dX3_mark_35 (by decide) (fun cZ => absurd (by decide) cZ) (fun c35 => ?_)
        refine lv_ldcw hx hb B.2.2.2.1 (B.ts _ q1801) dX3_mark_38 ?_
        refine r_iret B hr hM dX3_mark_41 ?_
        have hA : A_mark (sg ka) (nI ksh) q v = (-1000000013) := by simp only [A_mark, sg0, sg1, sg7, sg25, sg26, sg27, sg28, sg29, sg30, sg31, sg33, sg99, hclksh] <;> grind
        constructor
        · exact hA.symm
        · refine Rel.of ?_; rw [S_mark, hA, if_neg (by decide)]
    · refine lv_ldc hx hb B.2.2.2.1 (B.ts _ q1713) dX3_mark_19 ?_
      refine r_iret B hr hM dX3_mark_21 ?_
      have hA : A_mark (sg ka) (nI ksh) q v = (-1000000011) := by simp only [A_mark, sg0, sg1, sg7, sg25, sg26, sg27, sg28, sg29, sg30, sg31, sg33, sg99, hclksh] <;> grind
      constructor
      · exact hA.symm
      · refine Rel.of ?_; rw [S_mark, hA, if_neg (by decide)]
  · refine lv_if_ne (tgt := 10) hx hb dX3_mark_4 (by decide) (fun cZ => absurd (by decide) cZ) (fun c4 => ?_)
    refine lv_ldc hx hb B.2.2.2.1 (B.ts _ q1496) dX3_mark_7 ?_
    refine r_iret B hr hM dX3_mark_9 ?_
    have ib1 := mt (inC_iff (n := 4) (by omega)).mp b1
    have hA : A_mark (sg ka) sh q v = (-1000000001) := by simp only [A_mark, sg0, sg1, sg7, sg25, sg26, sg27, sg28, sg29, sg30, sg31, sg33, sg99] <;> grind
    constructor
    · exact hA.symm
    · refine Rel.of ?_; rw [S_mark, hA, if_neg (by decide)]
end
