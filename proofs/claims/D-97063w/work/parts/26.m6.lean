/-! the model: an hour goes by -/
set_option maxRecDepth 100000
section
variable {l : Launch} {G : GG} {th : Th} {rh : Rh} {ph : Ph} {ka : Ka} {y0 : Nat} {ay : Nat → Nat}
set_option maxHeartbeats 4000000 in
theorem ok_flows (hL : LayM th rh y0 ay) (hR : Rok (ka 1000)) {q : Nat} (hq : q < nP (ka 1000)) : Met l yX3_flows (ws_ yX3_flows cX3_flows 6 none) (RM 7 0 0) (Pc_ G [.ref y0, .int (nI q)] th rh ph ka) (Qv G th rh ph (fun ka' => ka' 1000 = flT (ka 1000) q ∧ But [1000, 1004, 1023, 1024] ka ka')) 0 0 (frG G) := by
  refine m_of (by decide) (Nat.le_of_ble_eq_true rfl) ?_
  intro p_ e_ s_ m_ below_ meth_ c_ B hr hnm ls hl hM
  have hx := B.1
  have hb := B.2.1
  have hM := hM
  obtain ⟨hp1, hp2, hp3, hp4⟩ := hR.2.2.2.1 q hq
  have h8 := hR.1.2
  have h13 := hR.2.1.2
  obtain ⟨hh1, hh2⟩ := higher_lt hp2 hp4
  refine lv_aload_n hx hb dX3_flows_0 rfl (lv_at hl 0 rfl) ?_
  refine lv_iload_n hx hb dX3_flows_1 rfl (lv_at hl 1 rfl) ?_
  refine k_i (r_V (As := [.int (nI q)]) (rest := []) B hM hL.1 rfl rfl (ok_runsIn hL hR (q := q) (by omega)) cal_X3_runsIn q1592 rfl hl.1 (Nat.le_of_ble_eq_true rfl) dX3_flows_2 ⟨Nat.le_of_ble_eq_true rfl, Nat.le_of_ble_eq_true rfl⟩ ⟨Nat.le_of_ble_eq_true rfl, Nat.le_of_ble_eq_true rfl⟩) hM (fun r_1 ka_2 H locs p_3 hM => ?_)
  obtain ⟨rfl, hq⟩ := p_3
  have hB_2 : But [1023, 1024] ka ka_2 := But.trans But.refl (But.mono hq (by decide))
  refine lv_topi (fun v_4 ev_4 => ?_)
  refine lv_istore_n (lv' := [(2, .int v_4), (0, .ref y0), (1, .int (nI q))]) hx hb dX3_flows_5 rfl hl (by decide) rfl (fun ls hl => ?_)
  refine lv_iload_n hx hb dX3_flows_6 rfl (lv_at hl 0 rfl) ?_
  refine lv_if_le (tgt := 82) hx hb dX3_flows_7 (by decide) (fun c7 => ?_) (fun c7 => ?_)
  · refine r_vret B hr hM dX3_flows_82 ?_
    refine ⟨?_, But.mono hB_2 (by decide)⟩
    rw [flT, if_neg (i_nlt.mpr (by rw [← ev_4]; exact c7)), hB_2 1000 (by decide)]
  · refine lv_aload_n hx hb dX3_flows_10 rfl (lv_at hl 1 rfl) ?_
    refine lv_iload_n hx hb dX3_flows_11 rfl (lv_at hl 2 rfl) ?_
    refine k_i (r_V (As := [.int (nI q)]) (rest := []) B hM hL.1 rfl rfl (ok_higher hL (by rw [(hB_2 1000 (by decide))]; exact hR) (q := q) (by rw [(hB_2 1000 (by decide))]; omega)) cal_X3_higher q1600 rfl hl.1 (Nat.le_of_ble_eq_true rfl) dX3_flows_12 ⟨Nat.le_of_ble_eq_true rfl, Nat.le_of_ble_eq_true rfl⟩ ⟨Nat.le_of_ble_eq_true rfl, Nat.le_of_ble_eq_true rfl⟩) hM (fun r_5 ka_6 H locs p_7 hM => ?_)
    obtain ⟨rfl, hq⟩ := p_7
    have hB_6 : But [1023, 1024] ka ka_6 := But.trans hB_2 (But.mono hq (by decide))
    refine r_topv (v := nI (higherT (ka 1000) q)) (by rw [(hB_2 1000 (by decide))]) ?_
    refine lv_istore_n (lv' := [(3, .int (nI (higherT (ka 1000) q))), (2, .int v_4), (0, .ref y0), (1, .int (nI q))]) hx hb dX3_flows_15 rfl hl (by decide) rfl (fun ls hl => ?_)
    refine lv_aload_n hx hb dX3_flows_16 rfl (lv_at hl 2 rfl) ?_
    refine lv_iload_n hx hb dX3_flows_17 rfl (lv_at hl 3 rfl) ?_
    refine lv_iconst (v := 0) hx hb dX3_flows_18 (by decide) ?_
    refine k_pe (v := ka_6 1000 (55 + 4 * q + 0)) (r_V (As := [.int (nI q), .int 0]) (rest := []) B hM hL.1 rfl rfl (ok_at hL (c := q) (w := 0) (by omega) (by omega)) cal_X3_at q1596 rfl hl.1 (Nat.le_of_ble_eq_true rfl) dX3_flows_19 ⟨Nat.le_of_ble_eq_true rfl, Nat.le_of_ble_eq_true rfl⟩ ⟨Nat.le_of_ble_eq_true rfl, Nat.le_of_ble_eq_true rfl⟩) hM (fun H locs hM => ?_)
    refine r_topv (v := ka 1000 (55 + 4 * q + 0)) (by rw [(hB_6 1000 (by decide))]) ?_
    refine r_topv (v := nI (pA (ka 1000) q)) hp1 ?_
    refine lv_aload_n hx hb dX3_flows_22 rfl (lv_at hl 2 rfl) ?_
    refine lv_iload_n hx hb dX3_flows_23 rfl (lv_at hl 3 rfl) ?_
    refine lv_iconst (v := 1) hx hb dX3_flows_24 (by decide) ?_
    refine k_pe (v := ka_6 1000 (55 + 4 * q + 1)) (r_V (As := [.int (nI q), .int 1]) (rest := [.int (nI (pA (ka 1000) q))]) B hM hL.1 rfl rfl (ok_at hL (c := q) (w := 1) (by omega) (by omega)) cal_X3_at q1596 rfl hl.1 (Nat.le_of_ble_eq_true rfl) dX3_flows_25 ⟨Nat.le_of_ble_eq_true rfl, Nat.le_of_ble_eq_true rfl⟩ ⟨Nat.le_of_ble_eq_true rfl, Nat.le_of_ble_eq_true rfl⟩) hM (fun H locs hM => ?_)
    refine r_topv (v := ka 1000 (55 + 4 * q + 1)) (by rw [(hB_6 1000 (by decide))]) ?_
    refine r_topv (v := nI (pB (ka 1000) q)) hp3 ?_
    refine lv_iadd hx hb dX3_flows_28 ?_
    refine lv_iload_n hx hb dX3_flows_29 rfl (lv_at hl 0 rfl) ?_
    refine lv_isub hx hb dX3_flows_30 ?_
    refine r_topv (v := nI (lowerT (ka 1000) q)) hl_sum ?_
    refine lv_istore (lv' := [(4, .int (nI (lowerT (ka 1000) q))), (3, .int (nI (higherT (ka 1000) q))), (2, .int v_4), (0, .ref y0), (1, .int (nI q))]) hx hb dX3_flows_31 hl (by decide) rfl (fun ls hl => ?_)
    refine lv_aload_n hx hb dX3_flows_33 rfl (lv_at hl 3 rfl) ?_
    refine lv_iload_n hx hb dX3_flows_34 rfl (lv_at hl 1 rfl) ?_
    refine lv_iload_n hx hb dX3_flows_35 rfl (lv_at hl 2 rfl) ?_
    refine k_v (r_V (As := [.int (nI (higherT (ka 1000) q)), .int v_4]) (rest := []) B hM hL.1 rfl rfl (ok_drains hL (c := higherT (ka 1000) q) (by omega) v_4) cal_X3_drains q1641 rfl hl.1 (Nat.le_of_ble_eq_true rfl) dX3_flows_36 ⟨Nat.le_of_ble_eq_true rfl, Nat.le_of_ble_eq_true rfl⟩ ⟨Nat.le_of_ble_eq_true rfl, Nat.le_of_ble_eq_true rfl⟩) hM (fun ka_8 H locs p_9 hM => ?_)
    obtain ⟨hd1, hd2, hq⟩ := p_9
    rw [hB_6 1000 (by decide)] at hd1 hd2
    have hB_8 : But [1000, 1004, 1023, 1024] ka ka_8 := But.trans (But.mono hB_6 (by decide)) (But.mono hq (by decide))
    refine lv_iconst (v := 0) hx hb dX3_flows_39 (by decide) ?_
    refine lv_istore (lv' := [(5, .int 0), (4, .int (nI (lowerT (ka 1000) q))), (3, .int (nI (higherT (ka 1000) q))), (2, .int v_4), (0, .ref y0), (1, .int (nI q))]) hx hb dX3_flows_40 hl (by decide) rfl (fun ls hl => ?_)
    refine lv_iload hx hb dX3_flows_42 (lv_at hl 0 rfl) ?_
    refine lv_iconst (v := 3) hx hb dX3_flows_44 (by decide) ?_
    refine lv_icmp_ge (tgt := 82) hx hb dX3_flows_45 (by decide) (fun cZ => absurd cZ (by decide)) (fun c45 => ?_)
    refine lv_aload_n hx hb dX3_flows_48 rfl (lv_at hl 4 rfl) ?_
    refine r_getq B hM 0 hL.1 rfl (by decide) rfl rfl (hL.2 0 _ _ rfl).1 q1382 dX3_flows_49 ?_
    refine lv_bipush (v := 7) hx hb dX3_flows_52 (by decide) ?_
    refine lv_bipush (v := 6) hx hb dX3_flows_54 (by decide) ?_
    refine lv_iload hx hb dX3_flows_56 (lv_at hl 1 rfl) ?_
    refine lv_imul hx hb dX3_flows_58 ?_
    refine lv_iadd hx hb dX3_flows_59 ?_
    refine lv_iconst (v := 3) hx hb dX3_flows_60 (by decide) ?_
    refine lv_iadd hx hb dX3_flows_61 ?_
    refine lv_iload hx hb dX3_flows_62 (lv_at hl 0 rfl) ?_
    refine lv_iadd hx hb dX3_flows_64 ?_
    refine lv_dup2_11 hx hb dX3_flows_65 rfl rfl ?_
    refine r_ild B hM (7 + 6 * (lowerT (ka 1000) q) + 3) (hL.2 0 _ _ rfl).2 (by simp only [nA, nMu, nL]; grind) (by omega) (by decide) dX3_flows_66 ?_
    refine lv_aload_n hx hb dX3_flows_67 rfl (lv_at hl 4 rfl) ?_
    refine r_getq B hM 4 hL.1 rfl (by decide) rfl rfl (hL.2 4 _ _ rfl).1 q1386 dX3_flows_68 ?_
    refine lv_iload hx hb dX3_flows_71 (lv_at hl 0 rfl) ?_
    refine r_ild B hM 0 (hL.2 4 _ _ rfl).2 rfl (by decide) (by decide) dX3_flows_73 ?_
    refine lv_iadd hx hb dX3_flows_74 ?_
    refine r_ist B hM (7 + 6 * (lowerT (ka 1000) q) + 3) (hL.2 0 _ _ rfl).2 (by simp only [nA, nMu, nL]; grind) (by omega) (by decide) dX3_flows_75 (fun ka_10 H locs eka_10 hM => ?_)
    have hB_10 : But [1000, 1004, 1023, 1024] ka ka_10 := But.trans hB_8 (by rw [eka_10]; exact But.up (by decide))
    refine lv_iinc (v := 1) (lv' := [(5, .int 1), (4, .int (nI (lowerT (ka 1000) q))), (3, .int (nI (higherT (ka 1000) q))), (2, .int v_4), (0, .ref y0), (1, .int (nI q))]) hx hb dX3_flows_76 hl (k := 0) rfl (by decide) (by decide) rfl (fun ls hl => ?_)
    refine lv_goto (tgt := 42) hx hb dX3_flows_79 (by decide) ?_
    refine lv_iload hx hb dX3_flows_42 (lv_at hl 0 rfl) ?_
    refine lv_iconst (v := 3) hx hb dX3_flows_44 (by decide) ?_
    refine lv_icmp_ge (tgt := 82) hx hb dX3_flows_45 (by decide) (fun cZ => absurd cZ (by decide)) (fun c45 => ?_)
    refine lv_aload_n hx hb dX3_flows_48 rfl (lv_at hl 4 rfl) ?_
    refine r_getq B hM 0 hL.1 rfl (by decide) rfl rfl (hL.2 0 _ _ rfl).1 q1382 dX3_flows_49 ?_
    refine lv_bipush (v := 7) hx hb dX3_flows_52 (by decide) ?_
    refine lv_bipush (v := 6) hx hb dX3_flows_54 (by decide) ?_
    refine lv_iload hx hb dX3_flows_56 (lv_at hl 1 rfl) ?_
    refine lv_imul hx hb dX3_flows_58 ?_
    refine lv_iadd hx hb dX3_flows_59 ?_
    refine lv_iconst (v := 3) hx hb dX3_flows_60 (by decide) ?_
    refine lv_iadd hx hb dX3_flows_61 ?_
    refine lv_iload hx hb dX3_flows_62 (lv_at hl 0 rfl) ?_
    refine lv_iadd hx hb dX3_flows_64 ?_
    refine lv_dup2_11 hx hb dX3_flows_65 rfl rfl ?_
    refine r_ild B hM (7 + 6 * (lowerT (ka 1000) q) + 4) (hL.2 0 _ _ rfl).2 (by simp only [nA, nMu, nL]; grind) (by omega) (by decide) dX3_flows_66 ?_
    refine r_topv (v := ka_8 1000 (7 + 6 * (lowerT (ka 1000) q) + 4)) (by rw [eka_10, up2_i _ _ _ _ (by omega)]) ?_
    refine lv_aload_n hx hb dX3_flows_67 rfl (lv_at hl 4 rfl) ?_
    refine r_getq B hM 4 hL.1 rfl (by decide) rfl rfl (hL.2 4 _ _ rfl).1 q1386 dX3_flows_68 ?_
    refine lv_iload hx hb dX3_flows_71 (lv_at hl 0 rfl) ?_
    refine r_ild B hM 1 (hL.2 4 _ _ rfl).2 rfl (by decide) (by decide) dX3_flows_73 ?_
    refine r_topv (v := ka_8 1004 1) (by rw [eka_10, up2_a _ _ _ (by decide)]) ?_
    refine lv_iadd hx hb dX3_flows_74 ?_
    refine r_ist B hM (7 + 6 * (lowerT (ka 1000) q) + 4) (hL.2 0 _ _ rfl).2 (by simp only [nA, nMu, nL]; grind) (by omega) (by decide) dX3_flows_75 (fun ka_11 H locs eka_11 hM => ?_)
    have hB_11 : But [1000, 1004, 1023, 1024] ka ka_11 := But.trans hB_10 (by rw [eka_11]; exact But.up (by decide))
    refine lv_iinc (v := 2) (lv' := [(5, .int 2), (4, .int (nI (lowerT (ka 1000) q))), (3, .int (nI (higherT (ka 1000) q))), (2, .int v_4), (0, .ref y0), (1, .int (nI q))]) hx hb dX3_flows_76 hl (k := 0) rfl (by decide) (by decide) rfl (fun ls hl => ?_)
    refine lv_goto (tgt := 42) hx hb dX3_flows_79 (by decide) ?_
    refine lv_iload hx hb dX3_flows_42 (lv_at hl 0 rfl) ?_
    refine lv_iconst (v := 3) hx hb dX3_flows_44 (by decide) ?_
    refine lv_icmp_ge (tgt := 82) hx hb dX3_flows_45 (by decide) (fun cZ => absurd cZ (by decide)) (fun c45 => ?_)
    refine lv_aload_n hx hb dX3_flows_48 rfl (lv_at hl 4 rfl) ?_
    refine r_getq B hM 0 hL.1 rfl (by decide) rfl rfl (hL.2 0 _ _ rfl).1 q1382 dX3_flows_49 ?_
    refine lv_bipush (v := 7) hx hb dX3_flows_52 (by decide) ?_
    refine lv_bipush (v := 6) hx hb dX3_flows_54 (by decide) ?_
    refine lv_iload hx hb dX3_flows_56 (lv_at hl 1 rfl) ?_
    refine lv_imul hx hb dX3_flows_58 ?_
    refine lv_iadd hx hb dX3_flows_59 ?_
    refine lv_iconst (v := 3) hx hb dX3_flows_60 (by decide) ?_
    refine lv_iadd hx hb dX3_flows_61 ?_
    refine lv_iload hx hb dX3_flows_62 (lv_at hl 0 rfl) ?_
    refine lv_iadd hx hb dX3_flows_64 ?_
    refine lv_dup2_11 hx hb dX3_flows_65 rfl rfl ?_
    refine r_ild B hM (7 + 6 * (lowerT (ka 1000) q) + 5) (hL.2 0 _ _ rfl).2 (by simp only [nA, nMu, nL]; grind) (by omega) (by decide) dX3_flows_66 ?_
    refine r_topv (v := ka_8 1000 (7 + 6 * (lowerT (ka 1000) q) + 5)) (by rw [eka_11, up2_i _ _ _ _ (by omega), eka_10, up2_i _ _ _ _ (by omega)]) ?_
    refine lv_aload_n hx hb dX3_flows_67 rfl (lv_at hl 4 rfl) ?_
    refine r_getq B hM 4 hL.1 rfl (by decide) rfl rfl (hL.2 4 _ _ rfl).1 q1386 dX3_flows_68 ?_
    refine lv_iload hx hb dX3_flows_71 (lv_at hl 0 rfl) ?_
    refine r_ild B hM 2 (hL.2 4 _ _ rfl).2 rfl (by decide) (by decide) dX3_flows_73 ?_
    refine r_topv (v := ka_8 1004 2) (by rw [eka_11, up2_a _ _ _ (by decide), eka_10, up2_a _ _ _ (by decide)]) ?_
    refine lv_iadd hx hb dX3_flows_74 ?_
    refine r_ist B hM (7 + 6 * (lowerT (ka 1000) q) + 5) (hL.2 0 _ _ rfl).2 (by simp only [nA, nMu, nL]; grind) (by omega) (by decide) dX3_flows_75 (fun ka_12 H locs eka_12 hM => ?_)
    have hB_12 : But [1000, 1004, 1023, 1024] ka ka_12 := But.trans hB_11 (by rw [eka_12]; exact But.up (by decide))
    refine lv_iinc (v := 3) (lv' := [(5, .int 3), (4, .int (nI (lowerT (ka 1000) q))), (3, .int (nI (higherT (ka 1000) q))), (2, .int v_4), (0, .ref y0), (1, .int (nI q))]) hx hb dX3_flows_76 hl (k := 0) rfl (by decide) (by decide) rfl (fun ls hl => ?_)
    refine lv_goto (tgt := 42) hx hb dX3_flows_79 (by decide) ?_
    refine lv_iload hx hb dX3_flows_42 (lv_at hl 0 rfl) ?_
    refine lv_iconst (v := 3) hx hb dX3_flows_44 (by decide) ?_
    refine lv_icmp_ge (tgt := 82) hx hb dX3_flows_45 (by decide) (fun c45 => ?_) (fun cZ => absurd (by decide) cZ)
    refine r_vret B hr hM dX3_flows_82 ?_
    refine ⟨?_, hB_12⟩
    rw [flT, if_pos (by rw [← ev_4]; exact i_nle.mp c7), ← ev_4]
    funext i
    simp only [eka_12, eka_11, eka_10, up2, inT, hd1, hd2 0 (by decide), hd2 1 (by decide), hd2 2 (by decide)]
    grind
set_option maxHeartbeats 4000000 in
theorem ok_spills (hL : LayM th rh y0 ay) {c : Nat} (hc : c < 8) (n : Int32) : Met l yX3_spills (ws_ yX3_spills cX3_spills 3 none) (RM 4 0 0) (Pc_ G [.ref y0, .int (nI c), .int n] th rh ph ka) (Qv G th rh ph (fun ka' => ka' 1000 = spT (ka 1000) c n ∧ But [1000, 1004] ka ka')) 0 0 (frG G) := by
  refine m_of (by decide) (Nat.le_of_ble_eq_true rfl) ?_
  intro p_ e_ s_ m_ below_ meth_ c_ B hr hnm ls hl hM
  have hx := B.1
  have hb := B.2.1
  have hM := hM
  refine lv_aload_n hx hb dX3_spills_0 rfl (lv_at hl 0 rfl) ?_
  refine lv_iload_n hx hb dX3_spills_1 rfl (lv_at hl 1 rfl) ?_
  refine lv_iload_n hx hb dX3_spills_2 rfl (lv_at hl 2 rfl) ?_
  refine k_v (r_V (As := [.int (nI c), .int n]) (rest := []) B hM hL.1 rfl rfl (ok_drains hL (c := c) (by omega) n) cal_X3_drains q1641 rfl hl.1 (Nat.le_of_ble_eq_true rfl) dX3_spills_3 ⟨Nat.le_of_ble_eq_true rfl, Nat.le_of_ble_eq_true rfl⟩ ⟨Nat.le_of_ble_eq_true rfl, Nat.le_of_ble_eq_true rfl⟩) hM (fun ka_1 H locs p_2 hM => ?_)
  obtain ⟨hd1, hd2, hq⟩ := p_2
  have hB_1 : But [1000, 1004] ka ka_1 := But.trans But.refl (But.mono hq (by decide))
  refine lv_aload_n hx hb dX3_spills_6 rfl (lv_at hl 0 rfl) ?_
  refine r_getq B hM 0 hL.1 rfl (by decide) rfl rfl (hL.2 0 _ _ rfl).1 q1382 dX3_spills_7 ?_
  refine lv_iconst (v := 5) hx hb dX3_spills_10 (by decide) ?_
  refine lv_dup2_11 hx hb dX3_spills_11 rfl rfl ?_
  refine r_ild B hM 5 (hL.2 0 _ _ rfl).2 rfl (by decide) (by decide) dX3_spills_12 ?_
  refine lv_iload_n hx hb dX3_spills_13 rfl (lv_at hl 2 rfl) ?_
  refine lv_iadd hx hb dX3_spills_14 ?_
  refine r_ist B hM 5 (hL.2 0 _ _ rfl).2 rfl (by decide) (by decide) dX3_spills_15 (fun ka_3 H locs eka_3 hM => ?_)
  have hB_3 : But [1000, 1004] ka ka_3 := But.trans hB_1 (by rw [eka_3]; exact But.up (by decide))
  refine r_vret B hr hM dX3_spills_16 ?_
  refine ⟨?_, hB_3⟩
  rw [spT]
  funext i
  simp only [eka_3, up2, rw1, va_up, hd1]
  have h5 : drT (ka 1000) c n 5 = ka 1000 5 := by unfold drT; rw [if_neg (by omega), if_neg (by omega), if_neg (by omega)]
  grind
set_option maxHeartbeats 4000000 in
theorem ok_hour (hL : LayM th rh y0 ay) (hR : Rok (ka 1000)) : Met l yX3_hour (ws_ yX3_hour cX3_hour 3 none) (RM 8 0 0) (Pc_ G [.ref y0] th rh ph ka) (Qv G th rh ph (fun ka' => ka' 1000 = hourT (ka 1000) ∧ But [1000, 1004, 1023, 1024] ka ka')) 0 0 (frG G) := by
  refine m_of (by decide) (Nat.le_of_ble_eq_true rfl) ?_
  intro p_ e_ s_ m_ below_ meth_ c_ B hr hnm ls hl hM
  have hx := B.1
  have hb := B.2.1
  have hM := hM
  have h8 := hR.1.2
  have h13 := hR.2.1.2
  have loop3 : ∀ (fu_loop3 : Nat) (i : Nat) (kb : Ka), nC (ka 1000) - i < fu_loop3 → (i ≤ nC (ka 1000)) → (kb 1000 = itn st3f i (st2 (st1 (ka 1000)))) → (Seq (ka 1000) (kb 1000)) → (But [1000, 1004, 1023, 1024] ka kb) → ∀ (ls : Array Slot) (H : Heap) (locs : List Loc), lv_has ls 3 [(0, .ref y0), (1, .int (nI i))] → Md G th rh ph kb H locs → W p_ l e_ (RM 8 0 0) s_ m_ ([.ref y0].toArray) below_ meth_ c_ H locs 0 0 (MQ below_ (Qv G th rh ph (fun ka' => ka' 1000 = hourT (ka 1000) ∧ But [1000, 1004, 1023, 1024] ka ka')) ([.ref y0].toArray) s_ 0 0 (frG G)) (F0 m_ 53 ls []) := by
    intro fu_loop3
    induction fu_loop3 with
    | zero => intro i kb hfu; exact absurd hfu (Nat.not_lt_zero _)
    | succ fu_loop3 ih_loop3 =>
      intro i kb hfu_loop3 hi hk hs hbu ls H locs hl hM
      refine lv_iload_n hx hb dX3_hour_53 rfl (lv_at hl 1 rfl) ?_
      refine lv_aload_n hx hb dX3_hour_54 rfl (lv_at hl 0 rfl) ?_
      refine r_getq B hM 0 hL.1 rfl (by decide) rfl rfl (hL.2 0 _ _ rfl).1 q1382 dX3_hour_55 ?_
      refine lv_iconst (v := 1) hx hb dX3_hour_58 (by decide) ?_
      refine r_ild B hM 1 (hL.2 0 _ _ rfl).2 rfl (by decide) (by decide) dX3_hour_59 ?_
      refine lv_icmp_ge (tgt := 106) hx hb dX3_hour_60 (by decide) (fun c60 => ?_) (fun c60 => ?_)
      · have n60 : nC (ka 1000) ≤ i := ntLe (by rw [hs.c1, hR.1.1]) rfl (by omega) (by omega) c60
        have hk3 : kb 1000 = st3 (st2 (st1 (ka 1000))) := by rw [hk, st3, (((st1_seq hR).trans (st2_seq ((st1_seq hR).rok hR))).nC)]; congr 1; omega
        have h8 := hR.1.2
        refine lv_aload_n hx hb dX3_hour_106 rfl (lv_at hl 0 rfl) ?_
        refine k_i (r_V (As := []) (rest := []) B hM hL.1 rfl rfl (ok_draw hL) cal_X3_draw q1616 rfl hl.1 (Nat.le_of_ble_eq_true rfl) dX3_hour_107 ⟨Nat.le_of_ble_eq_true rfl, Nat.le_of_ble_eq_true rfl⟩ ⟨Nat.le_of_ble_eq_true rfl, Nat.le_of_ble_eq_true rfl⟩) hM (fun r_1 ka_2 H locs p_3 hM => ?_)
        obtain ⟨rfl, ed1⟩ := p_3
        have hq : But [1000] kb ka_2 := by rw [ed1]; exact But.up (by decide)
        have hB_2 : But [1000, 1004, 1023, 1024] ka ka_2 := But.trans hbu (But.mono hq (by decide))
        have hz0 := z8_nat (drawT (kb 1000 0))
        refine lv_bipush (v := 100) hx hb dX3_hour_110 (by decide) ?_
        refine lv_irem hx hb dX3_hour_112 (by decide) ?_
        refine r_topv (v := rem (z8 (drawT (kb 1000 0))) 100) rfl ?_
        refine lv_aload_n hx hb dX3_hour_113 rfl (lv_at hl 0 rfl) ?_
        refine r_getq B hM 0 hL.1 rfl (by decide) rfl rfl (hL.2 0 _ _ rfl).1 q1382 dX3_hour_114 ?_
        refine lv_iconst (v := 4) hx hb dX3_hour_117 (by decide) ?_
        refine r_ild B hM 4 (hL.2 0 _ _ rfl).2 rfl (by decide) (by decide) dX3_hour_118 ?_
        refine r_topv (v := kb 1000 4) (by rw [ed1, up2_i _ _ _ _ (by decide)]) ?_
        refine lv_icmp_ge (tgt := 126) hx hb dX3_hour_119 (by decide) (fun c119 => ?_) (fun c119 => ?_)
        · refine lv_iconst (v := 0) hx hb dX3_hour_126 (by decide) ?_
          refine lv_istore_n (lv' := [(1, .int 0), (0, .ref y0)]) hx hb dX3_hour_127 rfl hl (by decide) rfl (fun ls hl => ?_)
          refine lv_iload_n hx hb dX3_hour_128 rfl (lv_at hl 0 rfl) ?_
          refine lv_if_eq (tgt := 168) hx hb dX3_hour_129 (by decide) (fun c129 => ?_) (fun cZ => absurd (by decide) cZ)
          refine lv_aload_n hx hb dX3_hour_168 rfl (lv_at hl 1 rfl) ?_
          refine r_getq B hM 0 hL.1 rfl (by decide) rfl rfl (hL.2 0 _ _ rfl).1 q1382 dX3_hour_169 ?_
          refine lv_iconst (v := 3) hx hb dX3_hour_172 (by decide) ?_
          refine lv_dup2_11 hx hb dX3_hour_173 rfl rfl ?_
          refine r_ild B hM 3 (hL.2 0 _ _ rfl).2 rfl (by decide) (by decide) dX3_hour_174 ?_
          refine lv_iconst (v := 1) hx hb dX3_hour_175 (by decide) ?_
          refine lv_iadd hx hb dX3_hour_176 ?_
          refine r_ist B hM 3 (hL.2 0 _ _ rfl).2 rfl (by decide) (by decide) dX3_hour_177 (fun ka_4 H locs eka_4 hM => ?_)
          have hB_4 : But [1000, 1004, 1023, 1024] ka ka_4 := But.trans hB_2 (by rw [eka_4]; exact But.up (by decide))
          refine r_vret B hr hM dX3_hour_178 ?_
          refine ⟨?_, hB_4⟩
          show _ = st5 (st4 (st3 (st2 (st1 (ka 1000)))))
          rw [← hk3]
          have hrow : ka_2 1000 = st4 (kb 1000) := by
            rw [st4, if_neg (fun z => by first | exact absurd z.1 (i_nlt.mpr (by assumption)) | exact absurd z.2 (i_nlt.mpr (by assumption))), ed1, up2_row]; rfl
          rw [eka_4, up2_row, hrow]; rfl
        · refine lv_iconst (v := 1) hx hb dX3_hour_122 (by decide) ?_
          refine lv_goto (tgt := 127) hx hb dX3_hour_123 (by decide) ?_
          refine lv_istore_n (lv' := [(1, .int 1), (0, .ref y0)]) hx hb dX3_hour_127 rfl hl (by decide) rfl (fun ls hl => ?_)
          refine lv_iload_n hx hb dX3_hour_128 rfl (lv_at hl 0 rfl) ?_
          refine lv_if_eq (tgt := 168) hx hb dX3_hour_129 (by decide) (fun cZ => absurd cZ (by decide)) (fun c129 => ?_)
          refine lv_aload_n hx hb dX3_hour_132 rfl (lv_at hl 1 rfl) ?_
          refine r_getq B hM 0 hL.1 rfl (by decide) rfl rfl (hL.2 0 _ _ rfl).1 q1382 dX3_hour_133 ?_
          refine lv_iconst (v := 1) hx hb dX3_hour_136 (by decide) ?_
          refine r_ild B hM 1 (hL.2 0 _ _ rfl).2 rfl (by decide) (by decide) dX3_hour_137 ?_
          refine r_topv (v := kb 1000 1) (by rw [ed1, up2_i _ _ _ _ (by decide)]) ?_
          refine lv_if_le (tgt := 168) hx hb dX3_hour_138 (by decide) (fun c138 => ?_) (fun c138 => ?_)
          · have n138 : nC (ka 1000) ≤ 0 := ntLe (by rw [hs.c1, hR.1.1]) rfl (by omega) (by omega) c138
            refine lv_aload_n hx hb dX3_hour_168 rfl (lv_at hl 1 rfl) ?_
            refine r_getq B hM 0 hL.1 rfl (by decide) rfl rfl (hL.2 0 _ _ rfl).1 q1382 dX3_hour_169 ?_
            refine lv_iconst (v := 3) hx hb dX3_hour_172 (by decide) ?_
            refine lv_dup2_11 hx hb dX3_hour_173 rfl rfl ?_
            refine r_ild B hM 3 (hL.2 0 _ _ rfl).2 rfl (by decide) (by decide) dX3_hour_174 ?_
            refine lv_iconst (v := 1) hx hb dX3_hour_175 (by decide) ?_
            refine lv_iadd hx hb dX3_hour_176 ?_
            refine r_ist B hM 3 (hL.2 0 _ _ rfl).2 rfl (by decide) (by decide) dX3_hour_177 (fun ka_5 H locs eka_5 hM => ?_)
            have hB_5 : But [1000, 1004, 1023, 1024] ka ka_5 := But.trans hB_2 (by rw [eka_5]; exact But.up (by decide))
            refine r_vret B hr hM dX3_hour_178 ?_
            refine ⟨?_, hB_5⟩
            show _ = st5 (st4 (st3 (st2 (st1 (ka 1000)))))
            rw [← hk3]
            have hrow : ka_2 1000 = st4 (kb 1000) := by
              rw [st4, if_neg (fun z => by first | exact absurd z.1 (i_nlt.mpr (by assumption)) | exact absurd z.2 (i_nlt.mpr (by assumption))), ed1, up2_row]; rfl
            rw [eka_5, up2_row, hrow]; rfl
          · have n138 : 0 < nC (ka 1000) := ntNle (by rw [hs.c1, hR.1.1]) rfl (by omega) (by omega) c138
            have h1 : 0 < nC (ka 1000) := Nat.pos_of_ne_zero fun z => c138 (by rw [hs.c1, hR.1.1, z]; decide)
            refine lv_aload_n hx hb dX3_hour_141 rfl (lv_at hl 1 rfl) ?_
            refine k_i (r_V (As := []) (rest := []) B hM hL.1 rfl rfl (ok_draw hL) cal_X3_draw q1616 rfl hl.1 (Nat.le_of_ble_eq_true rfl) dX3_hour_142 ⟨Nat.le_of_ble_eq_true rfl, Nat.le_of_ble_eq_true rfl⟩ ⟨Nat.le_of_ble_eq_true rfl, Nat.le_of_ble_eq_true rfl⟩) hM (fun r_6 ka_7 H locs p_8 hM => ?_)
            obtain ⟨rfl, ed2⟩ := p_8
            have hq : But [1000] ka_2 ka_7 := by rw [ed2]; exact But.up (by decide)
            have hB_7 : But [1000, 1004, 1023, 1024] ka ka_7 := But.trans hB_2 (But.mono hq (by decide))
            have e0 : ka_2 1000 0 = drawT (kb 1000 0) := by rw [ed1, up2_s]
            refine r_topv (v := z8 (drawT (drawT (kb 1000 0)))) (by rw [e0]) ?_
            refine lv_aload_n hx hb dX3_hour_145 rfl (lv_at hl 1 rfl) ?_
            refine r_getq B hM 0 hL.1 rfl (by decide) rfl rfl (hL.2 0 _ _ rfl).1 q1382 dX3_hour_146 ?_
            refine lv_iconst (v := 1) hx hb dX3_hour_149 (by decide) ?_
            refine r_ild B hM 1 (hL.2 0 _ _ rfl).2 rfl (by decide) (by decide) dX3_hour_150 ?_
            refine r_topv (v := kb 1000 1) (by rw [ed2, up2_i _ _ _ _ (by decide), ed1, up2_i _ _ _ _ (by decide)]) ?_
            refine lv_irem hx hb dX3_hour_151 (by rw [hs.c1, hR.1.1]; exact nI_ne0 h1 (by omega)) ?_
            obtain ⟨kq, hkq, ekq⟩ := rem_z8 (drawT (drawT (kb 1000 0))) (hs.c1.trans hR.1.1) h1 (by omega)
            refine r_topv (v := nI kq) ekq ?_
            refine lv_istore_n (lv' := [(2, .int (nI kq)), (1, .int 1), (0, .ref y0)]) hx hb dX3_hour_152 rfl hl (by decide) rfl (fun ls hl => ?_)
            refine lv_aload_n hx hb dX3_hour_153 rfl (lv_at hl 2 rfl) ?_
            refine lv_iload_n hx hb dX3_hour_154 rfl (lv_at hl 0 rfl) ?_
            refine lv_iconst (v := 5) hx hb dX3_hour_155 (by decide) ?_
            refine lv_iconst (v := 0) hx hb dX3_hour_156 (by decide) ?_
            refine lv_aload_n hx hb dX3_hour_157 rfl (lv_at hl 2 rfl) ?_
            refine lv_iload_n hx hb dX3_hour_158 rfl (lv_at hl 0 rfl) ?_
            refine k_pe (v := fullT (ka_7 1000) kq) (r_V (As := [.int (nI kq)]) (rest := [.int 0, .int 5, .int (nI kq), .ref y0]) B hM hL.1 rfl rfl (ok_fullOf hL (c := kq) (by omega)) cal_X3_fullOf q1514 rfl hl.1 (Nat.le_of_ble_eq_true rfl) dX3_hour_159 ⟨Nat.le_of_ble_eq_true rfl, Nat.le_of_ble_eq_true rfl⟩ ⟨Nat.le_of_ble_eq_true rfl, Nat.le_of_ble_eq_true rfl⟩) hM (fun H locs hM => ?_)
            refine r_topv (v := fullT (kb 1000) kq) (by unfold fullT; rw [ed2, up2_i _ _ _ _ (by omega), up2_i _ _ _ _ (by omega), up2_i _ _ _ _ (by omega), ed1, up2_i _ _ _ _ (by omega), up2_i _ _ _ _ (by omega), up2_i _ _ _ _ (by omega)]) ?_
            refine k_pe (v := wi 5 0 (fullT (kb 1000) kq)) (r_S (As := [.int 5, .int 0, .int (fullT (kb 1000) kq)]) (rest := [.int (nI kq), .ref y0]) B hM (ok_within 5 0 (fullT (kb 1000) kq)) cal_X3_within q1526 rfl hl.1 (Nat.le_of_ble_eq_true rfl) dX3_hour_162 ⟨Nat.le_of_ble_eq_true rfl, Nat.le_of_ble_eq_true rfl⟩ ⟨Nat.le_of_ble_eq_true rfl, Nat.le_of_ble_eq_true rfl⟩) hM (fun H locs hM => ?_)
            refine k_v (r_V (As := [.int (nI kq), .int (wi 5 0 (fullT (kb 1000) kq))]) (rest := []) B hM hL.1 rfl rfl (ok_drains hL (c := kq) (by omega) (wi 5 0 (fullT (kb 1000) kq))) cal_X3_drains q1641 rfl hl.1 (Nat.le_of_ble_eq_true rfl) dX3_hour_165 ⟨Nat.le_of_ble_eq_true rfl, Nat.le_of_ble_eq_true rfl⟩ ⟨Nat.le_of_ble_eq_true rfl, Nat.le_of_ble_eq_true rfl⟩) hM (fun ka_9 H locs p_10 hM => ?_)
            obtain ⟨hd1, hd2, hq⟩ := p_10
            have hB_9 : But [1000, 1004, 1023, 1024] ka ka_9 := But.trans hB_7 (But.mono hq (by decide))
            refine lv_aload_n hx hb dX3_hour_168 rfl (lv_at hl 2 rfl) ?_
            refine r_getq B hM 0 hL.1 rfl (by decide) rfl rfl (hL.2 0 _ _ rfl).1 q1382 dX3_hour_169 ?_
            refine lv_iconst (v := 3) hx hb dX3_hour_172 (by decide) ?_
            refine lv_dup2_11 hx hb dX3_hour_173 rfl rfl ?_
            refine r_ild B hM 3 (hL.2 0 _ _ rfl).2 rfl (by decide) (by decide) dX3_hour_174 ?_
            refine lv_iconst (v := 1) hx hb dX3_hour_175 (by decide) ?_
            refine lv_iadd hx hb dX3_hour_176 ?_
            refine r_ist B hM 3 (hL.2 0 _ _ rfl).2 rfl (by decide) (by decide) dX3_hour_177 (fun ka_11 H locs eka_11 hM => ?_)
            have hB_11 : But [1000, 1004, 1023, 1024] ka ka_11 := But.trans hB_9 (by rw [eka_11]; exact But.up (by decide))
            refine r_vret B hr hM dX3_hour_178 ?_
            refine ⟨?_, hB_11⟩
            show _ = st5 (st4 (st3 (st2 (st1 (ka 1000)))))
            rw [← hk3]
            have hrow : ka_9 1000 = st4 (kb 1000) := by
              rw [st4, if_pos ⟨i_nle.mp c119, i_nle.mp c138⟩, ekq, nI_clamp (by omega), hd1]
              have e9 : ka_7 1000 = rw1 (kb 1000) 0 (drawT (drawT (kb 1000 0))) := by rw [ed2, e0, ed1, up2_row, up2_row]; exact bx_uu _ _ _ _
              rw [e9]
            rw [eka_11, up2_row, hrow]; rfl
      · have n60 : i < nC (ka 1000) := ntNle (by rw [hs.c1, hR.1.1]) rfl (by omega) (by omega) c60
        refine lv_aload_n hx hb dX3_hour_63 rfl (lv_at hl 0 rfl) ?_
        refine lv_iload_n hx hb dX3_hour_64 rfl (lv_at hl 1 rfl) ?_
        refine k_i (r_V (As := [.int (nI i)]) (rest := []) B hM hL.1 rfl rfl (ok_highOf hL (hs.rok hR) (c := i) (by omega)) cal_X3_highOf q1518 rfl hl.1 (Nat.le_of_ble_eq_true rfl) dX3_hour_65 ⟨Nat.le_of_ble_eq_true rfl, Nat.le_of_ble_eq_true rfl⟩ ⟨Nat.le_of_ble_eq_true rfl, Nat.le_of_ble_eq_true rfl⟩) hM (fun r_12 ka_13 H locs p_14 hM => ?_)
        obtain ⟨rfl, hh⟩ := p_14
        have hB_13 : But [1000, 1004, 1023, 1024] ka ka_13 := But.trans hbu (But.mono hh (by decide))
        refine lv_aload_n hx hb dX3_hour_68 rfl (lv_at hl 0 rfl) ?_
        refine lv_iload_n hx hb dX3_hour_69 rfl (lv_at hl 1 rfl) ?_
        refine lv_iconst (v := 2) hx hb dX3_hour_70 (by decide) ?_
        refine k_pe (v := ka_13 1000 (7 + 6 * i + 2)) (r_V (As := [.int (nI i), .int 2]) (rest := [.int (highT (kb 1000) i)]) B hM hL.1 rfl rfl (ok_of hL (c := i) (w := 2) (by omega) (by omega)) cal_X3_of q1510 rfl hl.1 (Nat.le_of_ble_eq_true rfl) dX3_hour_71 ⟨Nat.le_of_ble_eq_true rfl, Nat.le_of_ble_eq_true rfl⟩ ⟨Nat.le_of_ble_eq_true rfl, Nat.le_of_ble_eq_true rfl⟩) hM (fun H locs hM => ?_)
        refine r_topv (v := kb 1000 (7 + 6 * i + 2)) (by rw [hh 1000 (by decide)]) ?_
        refine lv_icmp_le (tgt := 100) hx hb dX3_hour_74 (by decide) (fun c74 => ?_) (fun c74 => ?_)
        · refine lv_iinc (v := nI (i + 1)) (lv' := [(1, .int (nI (i + 1))), (0, .ref y0)]) hx hb dX3_hour_100 hl (k := 1) rfl (nI_1 _) (by decide) rfl (fun ls hl => ?_)
          refine lv_goto (tgt := 53) hx hb dX3_hour_103 (by decide) ?_
          exact ih_loop3 (i + 1) ka_13 (by omega) (by omega) (by rw [hh 1000 (by decide), hk]; show _ = st3f i _; rw [st3f, if_neg (by rw [← hk]; exact i_nlt.mpr c74)]) (by rw [hh 1000 (by decide)]; exact hs) hB_13 _ _ _ (lv_sub hl [1, 0] rfl) hM
        · refine lv_aload_n hx hb dX3_hour_77 rfl (lv_at hl 0 rfl) ?_
          refine lv_iload_n hx hb dX3_hour_78 rfl (lv_at hl 1 rfl) ?_
          refine lv_aload_n hx hb dX3_hour_79 rfl (lv_at hl 0 rfl) ?_
          refine lv_iload_n hx hb dX3_hour_80 rfl (lv_at hl 1 rfl) ?_
          refine k_pe (v := fullT (ka_13 1000) i) (r_V (As := [.int (nI i)]) (rest := [.int (nI i), .ref y0]) B hM hL.1 rfl rfl (ok_fullOf hL (c := i) (by omega)) cal_X3_fullOf q1514 rfl hl.1 (Nat.le_of_ble_eq_true rfl) dX3_hour_81 ⟨Nat.le_of_ble_eq_true rfl, Nat.le_of_ble_eq_true rfl⟩ ⟨Nat.le_of_ble_eq_true rfl, Nat.le_of_ble_eq_true rfl⟩) hM (fun H locs hM => ?_)
          refine r_topv (v := fullT (kb 1000) i) (by rw [hh 1000 (by decide)]) ?_
          refine lv_iconst (v := 4) hx hb dX3_hour_84 (by decide) ?_
          refine lv_idiv hx hb dX3_hour_85 (by decide) ?_
          refine lv_iconst (v := 1) hx hb dX3_hour_86 (by decide) ?_
          refine lv_iadd hx hb dX3_hour_87 ?_
          refine lv_iconst (v := 0) hx hb dX3_hour_88 (by decide) ?_
          refine lv_aload_n hx hb dX3_hour_89 rfl (lv_at hl 0 rfl) ?_
          refine lv_iload_n hx hb dX3_hour_90 rfl (lv_at hl 1 rfl) ?_
          refine k_pe (v := fullT (ka_13 1000) i) (r_V (As := [.int (nI i)]) (rest := [.int 0, .int (((fullT (kb 1000) i) / 4) + 1), .int (nI i), .ref y0]) B hM hL.1 rfl rfl (ok_fullOf hL (c := i) (by omega)) cal_X3_fullOf q1514 rfl hl.1 (Nat.le_of_ble_eq_true rfl) dX3_hour_91 ⟨Nat.le_of_ble_eq_true rfl, Nat.le_of_ble_eq_true rfl⟩ ⟨Nat.le_of_ble_eq_true rfl, Nat.le_of_ble_eq_true rfl⟩) hM (fun H locs hM => ?_)
          refine r_topv (v := fullT (kb 1000) i) (by rw [hh 1000 (by decide)]) ?_
          refine k_pe (v := wi (((fullT (kb 1000) i) / 4) + 1) 0 (fullT (kb 1000) i)) (r_S (As := [.int (((fullT (kb 1000) i) / 4) + 1), .int 0, .int (fullT (kb 1000) i)]) (rest := [.int (nI i), .ref y0]) B hM (ok_within (((fullT (kb 1000) i) / 4) + 1) 0 (fullT (kb 1000) i)) cal_X3_within q1526 rfl hl.1 (Nat.le_of_ble_eq_true rfl) dX3_hour_94 ⟨Nat.le_of_ble_eq_true rfl, Nat.le_of_ble_eq_true rfl⟩ ⟨Nat.le_of_ble_eq_true rfl, Nat.le_of_ble_eq_true rfl⟩) hM (fun H locs hM => ?_)
          refine k_v (r_V (As := [.int (nI i), .int (wi (((fullT (kb 1000) i) / 4) + 1) 0 (fullT (kb 1000) i))]) (rest := []) B hM hL.1 rfl rfl (ok_spills hL (c := i) (by omega) (wi (((fullT (kb 1000) i) / 4) + 1) 0 (fullT (kb 1000) i))) cal_X3_spills q1645 rfl hl.1 (Nat.le_of_ble_eq_true rfl) dX3_hour_97 ⟨Nat.le_of_ble_eq_true rfl, Nat.le_of_ble_eq_true rfl⟩ ⟨Nat.le_of_ble_eq_true rfl, Nat.le_of_ble_eq_true rfl⟩) hM (fun ka_15 H locs p_16 hM => ?_)
          obtain ⟨hf1, hq⟩ := p_16
          have hB_15 : But [1000, 1004, 1023, 1024] ka ka_15 := But.trans hB_13 (But.mono hq (by decide))
          refine lv_iinc (v := nI (i + 1)) (lv' := [(1, .int (nI (i + 1))), (0, .ref y0)]) hx hb dX3_hour_100 hl (k := 1) rfl (nI_1 _) (by decide) rfl (fun ls hl => ?_)
          refine lv_goto (tgt := 53) hx hb dX3_hour_103 (by decide) ?_
          exact ih_loop3 (i + 1) ka_15 (by omega) (by omega) (by rw [hf1, hh 1000 (by decide), hk]; show _ = st3f i _; rw [st3f, if_pos (by rw [← hk]; exact i_nle.mp c74)]) (by rw [hf1, hh 1000 (by decide)]; exact hs.trans (spT_seq (by omega) _)) hB_15 _ _ _ (lv_sub hl [1, 0] rfl) hM
  have loop2 : ∀ (fu_loop2 : Nat) (i : Nat) (kb : Ka), nC (ka 1000) - i < fu_loop2 → (i ≤ nC (ka 1000)) → (kb 1000 = itn (fun c t => spT t c (losesT t c)) i (st1 (ka 1000))) → (Seq (ka 1000) (kb 1000)) → (But [1000, 1004, 1023, 1024] ka kb) → ∀ (ls : Array Slot) (H : Heap) (locs : List Loc), lv_has ls 3 [(0, .ref y0), (1, .int (nI i))] → Md G th rh ph kb H locs → W p_ l e_ (RM 8 0 0) s_ m_ ([.ref y0].toArray) below_ meth_ c_ H locs 0 0 (MQ below_ (Qv G th rh ph (fun ka' => ka' 1000 = hourT (ka 1000) ∧ But [1000, 1004, 1023, 1024] ka ka')) ([.ref y0].toArray) s_ 0 0 (frG G)) (F0 m_ 25 ls []) := by
    intro fu_loop2
    induction fu_loop2 with
    | zero => intro i kb hfu; exact absurd hfu (Nat.not_lt_zero _)
    | succ fu_loop2 ih_loop2 =>
      intro i kb hfu_loop2 hi hk hs hbu ls H locs hl hM
      refine lv_iload_n hx hb dX3_hour_25 rfl (lv_at hl 1 rfl) ?_
      refine lv_aload_n hx hb dX3_hour_26 rfl (lv_at hl 0 rfl) ?_
      refine r_getq B hM 0 hL.1 rfl (by decide) rfl rfl (hL.2 0 _ _ rfl).1 q1382 dX3_hour_27 ?_
      refine lv_iconst (v := 1) hx hb dX3_hour_30 (by decide) ?_
      refine r_ild B hM 1 (hL.2 0 _ _ rfl).2 rfl (by decide) (by decide) dX3_hour_31 ?_
      refine lv_icmp_ge (tgt := 51) hx hb dX3_hour_32 (by decide) (fun c32 => ?_) (fun c32 => ?_)
      · have n32 : nC (ka 1000) ≤ i := ntLe (by rw [hs.c1, hR.1.1]) rfl (by omega) (by omega) c32
        refine lv_iconst (v := 0) hx hb dX3_hour_51 (by decide) ?_
        refine lv_istore_n (lv' := [(1, .int 0), (0, .ref y0)]) hx hb dX3_hour_52 rfl hl (by decide) rfl (fun ls hl => ?_)
        exact loop3 (nC (ka 1000) + 1) 0 kb (by omega) (Nat.zero_le _) (by show kb 1000 = st2 (st1 (ka 1000)); rw [hk, st2, (st1_seq hR).nC, show i = nC (ka 1000) by omega]) hs hbu _ _ _ (lv_sub hl [1, 0] rfl) hM
      · have n32 : i < nC (ka 1000) := ntNle (by rw [hs.c1, hR.1.1]) rfl (by omega) (by omega) c32
        refine lv_aload_n hx hb dX3_hour_35 rfl (lv_at hl 0 rfl) ?_
        refine lv_iload_n hx hb dX3_hour_36 rfl (lv_at hl 1 rfl) ?_
        refine lv_aload_n hx hb dX3_hour_37 rfl (lv_at hl 0 rfl) ?_
        refine lv_iload_n hx hb dX3_hour_38 rfl (lv_at hl 1 rfl) ?_
        refine k_pe (v := losesT (kb 1000) i) (r_V (As := [.int (nI i)]) (rest := [.int (nI i), .ref y0]) B hM hL.1 rfl rfl (ok_losesOf hL (c := i) (by omega)) cal_X3_losesOf q1540 rfl hl.1 (Nat.le_of_ble_eq_true rfl) dX3_hour_39 ⟨Nat.le_of_ble_eq_true rfl, Nat.le_of_ble_eq_true rfl⟩ ⟨Nat.le_of_ble_eq_true rfl, Nat.le_of_ble_eq_true rfl⟩) hM (fun H locs hM => ?_)
        refine k_v (r_V (As := [.int (nI i), .int (losesT (kb 1000) i)]) (rest := []) B hM hL.1 rfl rfl (ok_spills hL (c := i) (by omega) (losesT (kb 1000) i)) cal_X3_spills q1645 rfl hl.1 (Nat.le_of_ble_eq_true rfl) dX3_hour_42 ⟨Nat.le_of_ble_eq_true rfl, Nat.le_of_ble_eq_true rfl⟩ ⟨Nat.le_of_ble_eq_true rfl, Nat.le_of_ble_eq_true rfl⟩) hM (fun ka_17 H locs p_18 hM => ?_)
        obtain ⟨hf1, hq⟩ := p_18
        have hB_17 : But [1000, 1004, 1023, 1024] ka ka_17 := But.trans hbu (But.mono hq (by decide))
        refine lv_iinc (v := nI (i + 1)) (lv' := [(1, .int (nI (i + 1))), (0, .ref y0)]) hx hb dX3_hour_45 hl (k := 1) rfl (nI_1 _) (by decide) rfl (fun ls hl => ?_)
        refine lv_goto (tgt := 25) hx hb dX3_hour_48 (by decide) ?_
        exact ih_loop2 (i + 1) ka_17 (by omega) (by omega) (by rw [hf1, hk]; rfl) (by rw [hf1]; exact hs.trans (spT_seq (by omega) _)) hB_17 _ _ _ (lv_sub hl [1, 0] rfl) hM
  have loop1 : ∀ (fu_loop1 : Nat) (i : Nat) (kb : Ka), nP (ka 1000) - i < fu_loop1 → (i ≤ nP (ka 1000)) → (kb 1000 = itn (fun p t => flT t p) i (ka 1000)) → (Seq (ka 1000) (kb 1000)) → (But [1000, 1004, 1023, 1024] ka kb) → ∀ (ls : Array Slot) (H : Heap) (locs : List Loc), lv_has ls 3 [(0, .ref y0), (1, .int (nI i))] → Md G th rh ph kb H locs → W p_ l e_ (RM 8 0 0) s_ m_ ([.ref y0].toArray) below_ meth_ c_ H locs 0 0 (MQ below_ (Qv G th rh ph (fun ka' => ka' 1000 = hourT (ka 1000) ∧ But [1000, 1004, 1023, 1024] ka ka')) ([.ref y0].toArray) s_ 0 0 (frG G)) (F0 m_ 2 ls []) := by
    intro fu_loop1
    induction fu_loop1 with
    | zero => intro i kb hfu; exact absurd hfu (Nat.not_lt_zero _)
    | succ fu_loop1 ih_loop1 =>
      intro i kb hfu_loop1 hi hk hs hbu ls H locs hl hM
      refine lv_iload_n hx hb dX3_hour_2 rfl (lv_at hl 1 rfl) ?_
      refine lv_aload_n hx hb dX3_hour_3 rfl (lv_at hl 0 rfl) ?_
      refine r_getq B hM 0 hL.1 rfl (by decide) rfl rfl (hL.2 0 _ _ rfl).1 q1382 dX3_hour_4 ?_
      refine lv_iconst (v := 2) hx hb dX3_hour_7 (by decide) ?_
      refine r_ild B hM 2 (hL.2 0 _ _ rfl).2 rfl (by decide) (by decide) dX3_hour_8 ?_
      refine lv_icmp_ge (tgt := 23) hx hb dX3_hour_9 (by decide) (fun c9 => ?_) (fun c9 => ?_)
      · have n9 : nP (ka 1000) ≤ i := ntLe (by rw [hs.c2, hR.2.1.1]) rfl (by omega) (by omega) c9
        refine lv_iconst (v := 0) hx hb dX3_hour_23 (by decide) ?_
        refine lv_istore_n (lv' := [(1, .int 0), (0, .ref y0)]) hx hb dX3_hour_24 rfl hl (by decide) rfl (fun ls hl => ?_)
        exact loop2 (nC (ka 1000) + 1) 0 kb (by omega) (Nat.zero_le _) (by show kb 1000 = st1 (ka 1000); rw [hk, st1, show i = nP (ka 1000) by omega]) hs hbu _ _ _ (lv_sub hl [1, 0] rfl) hM
      · have n9 : i < nP (ka 1000) := ntNle (by rw [hs.c2, hR.2.1.1]) rfl (by omega) (by omega) c9
        refine lv_aload_n hx hb dX3_hour_12 rfl (lv_at hl 0 rfl) ?_
        refine lv_iload_n hx hb dX3_hour_13 rfl (lv_at hl 1 rfl) ?_
        refine k_v (r_V (As := [.int (nI i)]) (rest := []) B hM hL.1 rfl rfl (ok_flows hL (hs.rok hR) (q := i) (by rw [hs.nP]; omega)) cal_X3_flows q1637 rfl hl.1 (Nat.le_of_ble_eq_true rfl) dX3_hour_14 ⟨Nat.le_of_ble_eq_true rfl, Nat.le_of_ble_eq_true rfl⟩ ⟨Nat.le_of_ble_eq_true rfl, Nat.le_of_ble_eq_true rfl⟩) hM (fun ka_19 H locs p_20 hM => ?_)
        obtain ⟨hf1, hq⟩ := p_20
        have hB_19 : But [1000, 1004, 1023, 1024] ka ka_19 := But.trans hbu (But.mono hq (by decide))
        refine lv_iinc (v := nI (i + 1)) (lv' := [(1, .int (nI (i + 1))), (0, .ref y0)]) hx hb dX3_hour_17 hl (k := 1) rfl (nI_1 _) (by decide) rfl (fun ls hl => ?_)
        refine lv_goto (tgt := 2) hx hb dX3_hour_20 (by decide) ?_
        exact ih_loop1 (i + 1) ka_19 (by omega) (by omega) (by rw [hf1, hk]; rfl) (by rw [hf1]; exact hs.trans (flT_seq (hs.rok hR) (by rw [hs.nP]; omega))) hB_19 _ _ _ (lv_sub hl [1, 0] rfl) hM
  refine lv_iconst (v := 0) hx hb dX3_hour_0 (by decide) ?_
  refine lv_istore_n (lv' := [(1, .int 0), (0, .ref y0)]) hx hb dX3_hour_1 rfl hl (by decide) rfl (fun ls hl => ?_)
  exact loop1 (nP (ka 1000) + 1) 0 ka (by omega) (Nat.zero_le _) rfl Seq.refl But.refl _ _ _ (lv_sub hl [1, 0] rfl) hM
end
