/-! the model: hours, sums, what is put back -/
set_option maxRecDepth 100000
section
variable {l : Launch} {G : GG} {th : Th} {rh : Rh} {ph : Ph} {ka : Ka} {y0 : Nat} {ay : Nat → Nat}
set_option maxHeartbeats 4000000 in
theorem ok_goesOn (hL : LayM th rh y0 ay) (hR : Rok (ka 1000)) {n : Nat} (hn : n < 2 ^ 31) : Met l yX3_goesOn (ws_ yX3_goesOn cX3_goesOn 3 none) (RM 9 0 0) (Pc_ G [.ref y0, .int (nI n)] th rh ph ka) (Qv G th rh ph (fun ka' => ka' 1000 = hoursT n (ka 1000) ∧ But [1000, 1004, 1023, 1024] ka ka')) 0 0 (frG G) := by
  refine m_of (by decide) (Nat.le_of_ble_eq_true rfl) ?_
  intro p_ e_ s_ m_ below_ meth_ c_ B hr hnm ls hl hM
  have hx := B.1
  have hb := B.2.1
  have hM := hM
  have loop : ∀ (fu_loop : Nat) (i : Nat) (kb : Ka), n - i < fu_loop → (i ≤ n) → (kb 1000 = hoursT i (ka 1000)) → (Seq (ka 1000) (kb 1000)) → (But [1000, 1004, 1023, 1024] ka kb) → ∀ (ls : Array Slot) (H : Heap) (locs : List Loc), lv_has ls 3 [(0, .ref y0), (1, .int (nI n)), (2, .int (nI i))] → Md G th rh ph kb H locs → W p_ l e_ (RM 9 0 0) s_ m_ ([.ref y0, .int (nI n)].toArray) below_ meth_ c_ H locs 0 0 (MQ below_ (Qv G th rh ph (fun ka' => ka' 1000 = hoursT n (ka 1000) ∧ But [1000, 1004, 1023, 1024] ka ka')) ([.ref y0, .int (nI n)].toArray) s_ 0 0 (frG G)) (F0 m_ 2 ls []) := by
    intro fu_loop
    induction fu_loop with
    | zero => intro i kb hfu; exact absurd hfu (Nat.not_lt_zero _)
    | succ fu_loop ih_loop =>
      intro i kb hfu_loop hi hk hs hbu ls H locs hl hM
      refine lv_iload_n hx hb dX3_goesOn_2 rfl (lv_at hl 2 rfl) ?_
      refine lv_iload_n hx hb dX3_goesOn_3 rfl (lv_at hl 1 rfl) ?_
      refine lv_icmp_ge (tgt := 17) hx hb dX3_goesOn_4 (by decide) (fun c4 => ?_) (fun c4 => ?_)
      · have n4 : n ≤ i := ntLe rfl rfl (by omega) (by omega) c4
        refine r_vret B hr hM dX3_goesOn_17 ?_
        have hin : i = n := by omega
        subst hin
        exact ⟨hk, hbu⟩
      · have n4 : i < n := ntNle rfl rfl (by omega) (by omega) c4
        refine lv_aload_n hx hb dX3_goesOn_7 rfl (lv_at hl 0 rfl) ?_
        refine k_v (r_V (As := []) (rest := []) B hM hL.1 rfl rfl (ok_hour hL (hs.rok hR)) cal_X3_hour q1633 rfl hl.1 (Nat.le_of_ble_eq_true rfl) dX3_goesOn_8 ⟨Nat.le_of_ble_eq_true rfl, Nat.le_of_ble_eq_true rfl⟩ ⟨Nat.le_of_ble_eq_true rfl, Nat.le_of_ble_eq_true rfl⟩) hM (fun ka_1 H locs p_2 hM => ?_)
        obtain ⟨hf1, hq⟩ := p_2
        have hB_1 : But [1000, 1004, 1023, 1024] ka ka_1 := But.trans hbu (But.mono hq (by decide))
        refine lv_iinc (v := nI (i + 1)) (lv' := [(2, .int (nI (i + 1))), (0, .ref y0), (1, .int (nI n))]) hx hb dX3_goesOn_11 hl (k := 2) rfl (nI_1 _) (by decide) rfl (fun ls hl => ?_)
        refine lv_goto (tgt := 2) hx hb dX3_goesOn_14 (by decide) ?_
        exact ih_loop (i + 1) ka_1 (by omega) (by omega) (by rw [hf1, hk]; rfl) (by rw [hf1]; exact hs.trans (hourT_seq (hs.rok hR))) hB_1 _ _ _ (lv_sub hl [1, 2, 0] rfl) hM
  refine lv_iconst (v := 0) hx hb dX3_goesOn_0 (by decide) ?_
  refine lv_istore_n (lv' := [(2, .int 0), (0, .ref y0), (1, .int (nI n))]) hx hb dX3_goesOn_1 rfl hl (by decide) rfl (fun ls hl => ?_)
  exact loop (n + 1) 0 ka (by omega) (Nat.zero_le _) rfl Seq.refl But.refl _ _ _ (lv_sub hl [1, 2, 0] rfl) hM
set_option maxHeartbeats 4000000 in
theorem ok_fullOfAll (hL : LayM th rh y0 ay) (hR : Rok (ka 1000)) : Met l yX3_fullOfAll (ws_ yX3_fullOfAll cX3_fullOfAll 3 (some .int)) (RM 3 0 0) (Pc_ G [.ref y0] th rh ph ka) (Qp G th rh ph ka (fun r => r = allT (ka 1000))) 0 0 (frG G) := by
  refine m_of (by decide) (Nat.le_of_ble_eq_true rfl) ?_
  intro p_ e_ s_ m_ below_ meth_ c_ B hr hnm ls hl hM
  have hx := B.1
  have hb := B.2.1
  have hM := hM
  have h8 := hR.1.2
  have h13 := hR.2.1.2
  have loop : ∀ (fu_loop : Nat) (i : Nat) (z : Int32), nC (ka 1000) - i < fu_loop → (i ≤ nC (ka 1000)) → (z = itn (fun c a => a + fullT (ka 1000) c) i 0) → ∀ (ls : Array Slot) (H : Heap) (locs : List Loc), lv_has ls 3 [(0, .ref y0), (1, .int z), (2, .int (nI i))] → Md G th rh ph ka H locs → W p_ l e_ (RM 3 0 0) s_ m_ ([.ref y0].toArray) below_ meth_ c_ H locs 0 0 (MQ below_ (Qp G th rh ph ka (fun r => r = allT (ka 1000))) ([.ref y0].toArray) s_ 0 0 (frG G)) (F0 m_ 4 ls []) := by
    intro fu_loop
    induction fu_loop with
    | zero => intro i z hfu; exact absurd hfu (Nat.not_lt_zero _)
    | succ fu_loop ih_loop =>
      intro i z hfu_loop hi hz ls H locs hl hM
      refine lv_iload_n hx hb dX3_fullOfAll_4 rfl (lv_at hl 2 rfl) ?_
      refine lv_aload_n hx hb dX3_fullOfAll_5 rfl (lv_at hl 0 rfl) ?_
      refine r_getq B hM 0 hL.1 rfl (by decide) rfl rfl (hL.2 0 _ _ rfl).1 q1382 dX3_fullOfAll_6 ?_
      refine lv_iconst (v := 1) hx hb dX3_fullOfAll_9 (by decide) ?_
      refine r_ild B hM 1 (hL.2 0 _ _ rfl).2 rfl (by decide) (by decide) dX3_fullOfAll_10 ?_
      refine lv_icmp_ge (tgt := 28) hx hb dX3_fullOfAll_11 (by decide) (fun c11 => ?_) (fun c11 => ?_)
      · have n11 : nC (ka 1000) ≤ i := ntLe (by rw [hR.1.1]) rfl (by omega) (by omega) c11
        refine lv_iload_n hx hb dX3_fullOfAll_28 rfl (lv_at hl 1 rfl) ?_
        refine r_iretp B hr hM dX3_fullOfAll_29 ?_
        rw [hz, allT, show i = nC (ka 1000) by omega]
      · have n11 : i < nC (ka 1000) := ntNle (by rw [hR.1.1]) rfl (by omega) (by omega) c11
        refine lv_iload_n hx hb dX3_fullOfAll_14 rfl (lv_at hl 1 rfl) ?_
        refine lv_aload_n hx hb dX3_fullOfAll_15 rfl (lv_at hl 0 rfl) ?_
        refine lv_iload_n hx hb dX3_fullOfAll_16 rfl (lv_at hl 2 rfl) ?_
        refine k_pe (v := fullT (ka 1000) i) (r_V (As := [.int (nI i)]) (rest := [.int z]) B hM hL.1 rfl rfl (ok_fullOf hL (c := i) (by omega)) cal_X3_fullOf q1514 rfl hl.1 (Nat.le_of_ble_eq_true rfl) dX3_fullOfAll_17 ⟨Nat.le_of_ble_eq_true rfl, Nat.le_of_ble_eq_true rfl⟩ ⟨Nat.le_of_ble_eq_true rfl, Nat.le_of_ble_eq_true rfl⟩) hM (fun H locs hM => ?_)
        refine lv_iadd hx hb dX3_fullOfAll_20 ?_
        refine lv_topi (fun v_1 ev_1 => ?_)
        refine lv_istore_n (lv' := [(1, .int v_1), (0, .ref y0), (2, .int (nI i))]) hx hb dX3_fullOfAll_21 rfl hl (by decide) rfl (fun ls hl => ?_)
        refine lv_iinc (v := nI (i + 1)) (lv' := [(2, .int (nI (i + 1))), (1, .int v_1), (0, .ref y0)]) hx hb dX3_fullOfAll_22 hl (k := 2) rfl (nI_1 _) (by decide) rfl (fun ls hl => ?_)
        refine lv_goto (tgt := 4) hx hb dX3_fullOfAll_25 (by decide) ?_
        exact ih_loop (i + 1) v_1 (by omega) (by omega) (by rw [ev_1, hz]; rfl) _ _ _ (lv_sub hl [2, 1, 0] rfl) hM
  refine lv_iconst (v := 0) hx hb dX3_fullOfAll_0 (by decide) ?_
  refine lv_istore_n (lv' := [(1, .int 0), (0, .ref y0)]) hx hb dX3_fullOfAll_1 rfl hl (by decide) rfl (fun ls hl => ?_)
  refine lv_iconst (v := 0) hx hb dX3_fullOfAll_2 (by decide) ?_
  refine lv_istore_n (lv' := [(2, .int 0), (1, .int 0), (0, .ref y0)]) hx hb dX3_fullOfAll_3 rfl hl (by decide) rfl (fun ls hl => ?_)
  exact loop (nC (ka 1000) + 1) 0 0 (by omega) (Nat.zero_le _) rfl _ _ _ (lv_sub hl [2, 1, 0] rfl) hM
set_option maxHeartbeats 4000000 in
theorem ok_corked (hL : LayM th rh y0 ay) (hR : Rok (ka 1000)) : Met l yX3_corked (ws_ yX3_corked cX3_corked 3 (some .int)) (RM 2 0 0) (Pc_ G [.ref y0] th rh ph ka) (Qp G th rh ph ka (fun r => r = corkedT (ka 1000))) 0 0 (frG G) := by
  refine m_of (by decide) (Nat.le_of_ble_eq_true rfl) ?_
  intro p_ e_ s_ m_ below_ meth_ c_ B hr hnm ls hl hM
  have hx := B.1
  have hb := B.2.1
  have hM := hM
  have h8 := hR.1.2
  have h13 := hR.2.1.2
  have loop : ∀ (fu_loop : Nat) (i : Nat) (z : Int32), nP (ka 1000) - i < fu_loop → (i ≤ nP (ka 1000)) → (z = itn (fun p a => a + ka 1000 (55 + 4 * p + 3)) i 0) → ∀ (ls : Array Slot) (H : Heap) (locs : List Loc), lv_has ls 3 [(0, .ref y0), (1, .int z), (2, .int (nI i))] → Md G th rh ph ka H locs → W p_ l e_ (RM 2 0 0) s_ m_ ([.ref y0].toArray) below_ meth_ c_ H locs 0 0 (MQ below_ (Qp G th rh ph ka (fun r => r = corkedT (ka 1000))) ([.ref y0].toArray) s_ 0 0 (frG G)) (F0 m_ 4 ls []) := by
    intro fu_loop
    induction fu_loop with
    | zero => intro i z hfu; exact absurd hfu (Nat.not_lt_zero _)
    | succ fu_loop ih_loop =>
      intro i z hfu_loop hi hz ls H locs hl hM
      refine lv_iload_n hx hb dX3_corked_4 rfl (lv_at hl 2 rfl) ?_
      refine lv_aload_n hx hb dX3_corked_5 rfl (lv_at hl 0 rfl) ?_
      refine r_getq B hM 0 hL.1 rfl (by decide) rfl rfl (hL.2 0 _ _ rfl).1 q1382 dX3_corked_6 ?_
      refine lv_iconst (v := 2) hx hb dX3_corked_9 (by decide) ?_
      refine r_ild B hM 2 (hL.2 0 _ _ rfl).2 rfl (by decide) (by decide) dX3_corked_10 ?_
      refine lv_icmp_ge (tgt := 29) hx hb dX3_corked_11 (by decide) (fun c11 => ?_) (fun c11 => ?_)
      · have n11 : nP (ka 1000) ≤ i := ntLe (by rw [hR.2.1.1]) rfl (by omega) (by omega) c11
        refine lv_iload_n hx hb dX3_corked_29 rfl (lv_at hl 1 rfl) ?_
        refine r_iretp B hr hM dX3_corked_30 ?_
        rw [hz, corkedT, show i = nP (ka 1000) by omega]
      · have n11 : i < nP (ka 1000) := ntNle (by rw [hR.2.1.1]) rfl (by omega) (by omega) c11
        refine lv_iload_n hx hb dX3_corked_14 rfl (lv_at hl 1 rfl) ?_
        refine lv_aload_n hx hb dX3_corked_15 rfl (lv_at hl 0 rfl) ?_
        refine lv_iload_n hx hb dX3_corked_16 rfl (lv_at hl 2 rfl) ?_
        refine lv_iconst (v := 3) hx hb dX3_corked_17 (by decide) ?_
        refine k_pe (v := ka 1000 (55 + 4 * i + 3)) (r_V (As := [.int (nI i), .int 3]) (rest := [.int z]) B hM hL.1 rfl rfl (ok_at hL (c := i) (w := 3) (by omega) (by omega)) cal_X3_at q1596 rfl hl.1 (Nat.le_of_ble_eq_true rfl) dX3_corked_18 ⟨Nat.le_of_ble_eq_true rfl, Nat.le_of_ble_eq_true rfl⟩ ⟨Nat.le_of_ble_eq_true rfl, Nat.le_of_ble_eq_true rfl⟩) hM (fun H locs hM => ?_)
        refine lv_iadd hx hb dX3_corked_21 ?_
        refine lv_topi (fun v_1 ev_1 => ?_)
        refine lv_istore_n (lv' := [(1, .int v_1), (0, .ref y0), (2, .int (nI i))]) hx hb dX3_corked_22 rfl hl (by decide) rfl (fun ls hl => ?_)
        refine lv_iinc (v := nI (i + 1)) (lv' := [(2, .int (nI (i + 1))), (1, .int v_1), (0, .ref y0)]) hx hb dX3_corked_23 hl (k := 2) rfl (nI_1 _) (by decide) rfl (fun ls hl => ?_)
        refine lv_goto (tgt := 4) hx hb dX3_corked_26 (by decide) ?_
        exact ih_loop (i + 1) v_1 (by omega) (by omega) (by rw [ev_1, hz]; rfl) _ _ _ (lv_sub hl [2, 1, 0] rfl) hM
  refine lv_iconst (v := 0) hx hb dX3_corked_0 (by decide) ?_
  refine lv_istore_n (lv' := [(1, .int 0), (0, .ref y0)]) hx hb dX3_corked_1 rfl hl (by decide) rfl (fun ls hl => ?_)
  refine lv_iconst (v := 0) hx hb dX3_corked_2 (by decide) ?_
  refine lv_istore_n (lv' := [(2, .int 0), (1, .int 0), (0, .ref y0)]) hx hb dX3_corked_3 rfl hl (by decide) rfl (fun ls hl => ?_)
  exact loop (nP (ka 1000) + 1) 0 0 (by omega) (Nat.zero_le _) rfl _ _ _ (lv_sub hl [2, 1, 0] rfl) hM
set_option maxHeartbeats 4000000 in
theorem ok_running (hL : LayM th rh y0 ay) (hR : Rok (ka 1000)) : Met l yX3_running (ws_ yX3_running cX3_running 3 (some .int)) (RM 7 0 0) (Pc_ G [.ref y0] th rh ph ka) (Qi G th rh ph (fun r ka' => r = runningT (ka 1000) ∧ But [1023, 1024] ka ka')) 0 0 (frG G) := by
  refine m_of (by decide) (Nat.le_of_ble_eq_true rfl) ?_
  intro p_ e_ s_ m_ below_ meth_ c_ B hr hnm ls hl hM
  have hx := B.1
  have hb := B.2.1
  have hM := hM
  have h13 := hR.2.1.2
  have loop : ∀ (fu_loop : Nat) (i : Nat) (z : Int32) (kb : Ka), nP (ka 1000) - i < fu_loop → (i ≤ nP (ka 1000)) → (z = itn (fun p a => a + (if 0 < runsT (ka 1000) p then 1 else 0)) i 0) → (But [1023, 1024] ka kb) → ∀ (ls : Array Slot) (H : Heap) (locs : List Loc), lv_has ls 3 [(0, .ref y0), (1, .int z), (2, .int (nI i))] → Md G th rh ph kb H locs → W p_ l e_ (RM 7 0 0) s_ m_ ([.ref y0].toArray) below_ meth_ c_ H locs 0 0 (MQ below_ (Qi G th rh ph (fun r ka' => r = runningT (ka 1000) ∧ But [1023, 1024] ka ka')) ([.ref y0].toArray) s_ 0 0 (frG G)) (F0 m_ 4 ls []) := by
    intro fu_loop
    induction fu_loop with
    | zero => intro i z kb hfu; exact absurd hfu (Nat.not_lt_zero _)
    | succ fu_loop ih_loop =>
      intro i z kb hfu_loop hi hz hbu ls H locs hl hM
      refine lv_iload_n hx hb dX3_running_4 rfl (lv_at hl 2 rfl) ?_
      refine lv_aload_n hx hb dX3_running_5 rfl (lv_at hl 0 rfl) ?_
      refine r_getq B hM 0 hL.1 rfl (by decide) rfl rfl (hL.2 0 _ _ rfl).1 q1382 dX3_running_6 ?_
      refine lv_iconst (v := 2) hx hb dX3_running_9 (by decide) ?_
      refine r_ild B hM 2 (hL.2 0 _ _ rfl).2 rfl (by decide) (by decide) dX3_running_10 ?_
      refine lv_icmp_ge (tgt := 36) hx hb dX3_running_11 (by decide) (fun c11 => ?_) (fun c11 => ?_)
      · have n11 : nP (ka 1000) ≤ i := ntLe (by rw [(hbu 1000 (by decide)), hR.2.1.1]) rfl (by omega) (by omega) c11
        refine lv_iload_n hx hb dX3_running_36 rfl (lv_at hl 1 rfl) ?_
        refine r_iret B hr hM dX3_running_37 ?_
        refine ⟨?_, hbu⟩
        rw [hz, runningT, show i = nP (ka 1000) by omega]
      · have n11 : i < nP (ka 1000) := ntNle (by rw [(hbu 1000 (by decide)), hR.2.1.1]) rfl (by omega) (by omega) c11
        refine lv_iload_n hx hb dX3_running_14 rfl (lv_at hl 1 rfl) ?_
        refine lv_aload_n hx hb dX3_running_15 rfl (lv_at hl 0 rfl) ?_
        refine lv_iload_n hx hb dX3_running_16 rfl (lv_at hl 2 rfl) ?_
        refine k_i (r_V (As := [.int (nI i)]) (rest := [.int z]) B hM hL.1 rfl rfl (ok_runsIn hL (by rw [hbu 1000 (by decide)]; exact hR) (q := i) (by rw [hbu 1000 (by decide)]; omega)) cal_X3_runsIn q1592 rfl hl.1 (Nat.le_of_ble_eq_true rfl) dX3_running_17 ⟨Nat.le_of_ble_eq_true rfl, Nat.le_of_ble_eq_true rfl⟩ ⟨Nat.le_of_ble_eq_true rfl, Nat.le_of_ble_eq_true rfl⟩) hM (fun r_1 ka_2 H locs p_3 hM => ?_)
        obtain ⟨hr1, hq⟩ := p_3
        rw [hbu 1000 (by decide)] at hr1
        subst hr1
        have hB_2 : But [1023, 1024] ka ka_2 := But.trans hbu (But.mono hq (by decide))
        refine lv_if_le (tgt := 27) hx hb dX3_running_20 (by decide) (fun c20 => ?_) (fun c20 => ?_)
        · refine lv_iconst (v := 0) hx hb dX3_running_27 (by decide) ?_
          refine lv_iadd hx hb dX3_running_28 ?_
          refine lv_topi (fun v_4 ev_4 => ?_)
          refine lv_istore_n (lv' := [(1, .int v_4), (0, .ref y0), (2, .int (nI i))]) hx hb dX3_running_29 rfl hl (by decide) rfl (fun ls hl => ?_)
          refine lv_iinc (v := nI (i + 1)) (lv' := [(2, .int (nI (i + 1))), (1, .int v_4), (0, .ref y0)]) hx hb dX3_running_30 hl (k := 2) rfl (nI_1 _) (by decide) rfl (fun ls hl => ?_)
          refine lv_goto (tgt := 4) hx hb dX3_running_33 (by decide) ?_
          exact ih_loop (i + 1) v_4 ka_2 (by omega) (by omega) (by rw [ev_4, hz]; show _ = _ + _; rw [if_neg (i_nlt.mpr c20)]) hB_2 _ _ _ (lv_sub hl [2, 1, 0] rfl) hM
        · refine lv_iconst (v := 1) hx hb dX3_running_23 (by decide) ?_
          refine lv_goto (tgt := 28) hx hb dX3_running_24 (by decide) ?_
          refine lv_iadd hx hb dX3_running_28 ?_
          refine lv_topi (fun v_5 ev_5 => ?_)
          refine lv_istore_n (lv' := [(1, .int v_5), (0, .ref y0), (2, .int (nI i))]) hx hb dX3_running_29 rfl hl (by decide) rfl (fun ls hl => ?_)
          refine lv_iinc (v := nI (i + 1)) (lv' := [(2, .int (nI (i + 1))), (1, .int v_5), (0, .ref y0)]) hx hb dX3_running_30 hl (k := 2) rfl (nI_1 _) (by decide) rfl (fun ls hl => ?_)
          refine lv_goto (tgt := 4) hx hb dX3_running_33 (by decide) ?_
          exact ih_loop (i + 1) v_5 ka_2 (by omega) (by omega) (by rw [ev_5, hz]; show _ = _ + _; rw [if_pos (i_nle.mp c20)]) hB_2 _ _ _ (lv_sub hl [2, 1, 0] rfl) hM
  refine lv_iconst (v := 0) hx hb dX3_running_0 (by decide) ?_
  refine lv_istore_n (lv' := [(1, .int 0), (0, .ref y0)]) hx hb dX3_running_1 rfl hl (by decide) rfl (fun ls hl => ?_)
  refine lv_iconst (v := 0) hx hb dX3_running_2 (by decide) ?_
  refine lv_istore_n (lv' := [(2, .int 0), (1, .int 0), (0, .ref y0)]) hx hb dX3_running_3 rfl hl (by decide) rfl (fun ls hl => ?_)
  exact loop (nP (ka 1000) + 1) 0 0 ka (by omega) (Nat.zero_le _) rfl But.refl _ _ _ (lv_sub hl [2, 1, 0] rfl) hM
set_option maxHeartbeats 4000000 in
theorem ok_thinks (hL : LayM th rh y0 ay)  : Met l yX3_thinks (ws_ yX3_thinks cX3_thinks 2 none) (RM 1 0 0) (Pc_ G [.ref y0] th rh ph ka) (Qv G th rh ph (fun ka' => ka' 1005 = bkT (ka 1000) (ka 1005) ∧ But [1005] ka ka')) 0 0 (frG G) := by
  refine m_of (by decide) (Nat.le_of_ble_eq_true rfl) ?_
  intro p_ e_ s_ m_ below_ meth_ c_ B hr hnm ls hl hM
  have hx := B.1
  have hb := B.2.1
  have hM := hM
  have loop : ∀ (fu_loop : Nat) (i : Nat) (kb : Ka), 107 - i < fu_loop → (i ≤ 107) → (∀ j, kb 1005 j = if j < i then ka 1000 j else ka 1005 j) → (But [1005] ka kb) → ∀ (ls : Array Slot) (H : Heap) (locs : List Loc), lv_has ls 2 [(0, .ref y0), (1, .int (nI i))] → Md G th rh ph kb H locs → W p_ l e_ (RM 1 0 0) s_ m_ ([.ref y0].toArray) below_ meth_ c_ H locs 0 0 (MQ below_ (Qv G th rh ph (fun ka' => ka' 1005 = bkT (ka 1000) (ka 1005) ∧ But [1005] ka ka')) ([.ref y0].toArray) s_ 0 0 (frG G)) (F0 m_ 2 ls []) := by
    intro fu_loop
    induction fu_loop with
    | zero => intro i kb hfu; exact absurd hfu (Nat.not_lt_zero _)
    | succ fu_loop ih_loop =>
      intro i kb hfu_loop hi hk hbu ls H locs hl hM
      refine lv_iload_n hx hb dX3_thinks_2 rfl (lv_at hl 1 rfl) ?_
      refine lv_bipush (v := 107) hx hb dX3_thinks_3 (by decide) ?_
      refine lv_icmp_ge (tgt := 26) hx hb dX3_thinks_5 (by decide) (fun c5 => ?_) (fun c5 => ?_)
      · have n5 : 107 ≤ i := ntLe rfl rfl (by omega) (by omega) c5
        refine r_vret B hr hM dX3_thinks_26 ?_
        have hin : i = 107 := by omega
        subst hin
        exact ⟨funext hk, hbu⟩
      · have n5 : i < 107 := ntNle rfl rfl (by omega) (by omega) c5
        refine lv_aload_n hx hb dX3_thinks_8 rfl (lv_at hl 0 rfl) ?_
        refine r_getq B hM 5 hL.1 rfl (by decide) rfl rfl (hL.2 5 _ _ rfl).1 q1387 dX3_thinks_9 ?_
        refine lv_iload_n hx hb dX3_thinks_12 rfl (lv_at hl 1 rfl) ?_
        refine lv_aload_n hx hb dX3_thinks_13 rfl (lv_at hl 0 rfl) ?_
        refine r_getq B hM 0 hL.1 rfl (by decide) rfl rfl (hL.2 0 _ _ rfl).1 q1382 dX3_thinks_14 ?_
        refine lv_iload_n hx hb dX3_thinks_17 rfl (lv_at hl 1 rfl) ?_
        refine r_ild B hM i (hL.2 0 _ _ rfl).2 rfl (by omega) (by decide) dX3_thinks_18 ?_
        refine r_topv (v := ka 1000 i) (congrFun (hbu 1000 (by decide)) _) ?_
        refine r_ist B hM i (hL.2 5 _ _ rfl).2 rfl (by omega) (by decide) dX3_thinks_19 (fun ka_1 H locs eka_1 hM => ?_)
        have hB_1 : But [1005] ka ka_1 := But.trans hbu (by rw [eka_1]; exact But.up (by decide))
        refine lv_iinc (v := nI (i + 1)) (lv' := [(1, .int (nI (i + 1))), (0, .ref y0)]) hx hb dX3_thinks_20 hl (k := 1) rfl (nI_1 _) (by decide) rfl (fun ls hl => ?_)
        refine lv_goto (tgt := 2) hx hb dX3_thinks_23 (by decide) ?_
        exact ih_loop (i + 1) ka_1 (by omega) (by omega) (cp_step eka_1 hk) hB_1 _ _ _ (lv_sub hl [1, 0] rfl) hM
  refine lv_iconst (v := 0) hx hb dX3_thinks_0 (by decide) ?_
  refine lv_istore_n (lv' := [(1, .int 0), (0, .ref y0)]) hx hb dX3_thinks_1 rfl hl (by decide) rfl (fun ls hl => ?_)
  exact loop 108 0 ka (by omega) (Nat.zero_le _) (fun j => by rw [if_neg (Nat.not_lt_zero _)]) But.refl _ _ _ (lv_sub hl [1, 0] rfl) hM
set_option maxHeartbeats 4000000 in
theorem ok_putsBack (hL : LayM th rh y0 ay)  : Met l yX3_putsBack (ws_ yX3_putsBack cX3_putsBack 2 none) (RM 1 0 0) (Pc_ G [.ref y0] th rh ph ka) (Qv G th rh ph (fun ka' => ka' 1000 = bkT (ka 1005) (ka 1000) ∧ But [1000] ka ka')) 0 0 (frG G) := by
  refine m_of (by decide) (Nat.le_of_ble_eq_true rfl) ?_
  intro p_ e_ s_ m_ below_ meth_ c_ B hr hnm ls hl hM
  have hx := B.1
  have hb := B.2.1
  have hM := hM
  have loop : ∀ (fu_loop : Nat) (i : Nat) (kb : Ka), 107 - i < fu_loop → (i ≤ 107) → (∀ j, kb 1000 j = if j < i then ka 1005 j else ka 1000 j) → (But [1000] ka kb) → ∀ (ls : Array Slot) (H : Heap) (locs : List Loc), lv_has ls 2 [(0, .ref y0), (1, .int (nI i))] → Md G th rh ph kb H locs → W p_ l e_ (RM 1 0 0) s_ m_ ([.ref y0].toArray) below_ meth_ c_ H locs 0 0 (MQ below_ (Qv G th rh ph (fun ka' => ka' 1000 = bkT (ka 1005) (ka 1000) ∧ But [1000] ka ka')) ([.ref y0].toArray) s_ 0 0 (frG G)) (F0 m_ 2 ls []) := by
    intro fu_loop
    induction fu_loop with
    | zero => intro i kb hfu; exact absurd hfu (Nat.not_lt_zero _)
    | succ fu_loop ih_loop =>
      intro i kb hfu_loop hi hk hbu ls H locs hl hM
      refine lv_iload_n hx hb dX3_putsBack_2 rfl (lv_at hl 1 rfl) ?_
      refine lv_bipush (v := 107) hx hb dX3_putsBack_3 (by decide) ?_
      refine lv_icmp_ge (tgt := 26) hx hb dX3_putsBack_5 (by decide) (fun c5 => ?_) (fun c5 => ?_)
      · have n5 : 107 ≤ i := ntLe rfl rfl (by omega) (by omega) c5
        refine r_vret B hr hM dX3_putsBack_26 ?_
        have hin : i = 107 := by omega
        subst hin
        exact ⟨funext hk, hbu⟩
      · have n5 : i < 107 := ntNle rfl rfl (by omega) (by omega) c5
        refine lv_aload_n hx hb dX3_putsBack_8 rfl (lv_at hl 0 rfl) ?_
        refine r_getq B hM 0 hL.1 rfl (by decide) rfl rfl (hL.2 0 _ _ rfl).1 q1382 dX3_putsBack_9 ?_
        refine lv_iload_n hx hb dX3_putsBack_12 rfl (lv_at hl 1 rfl) ?_
        refine lv_aload_n hx hb dX3_putsBack_13 rfl (lv_at hl 0 rfl) ?_
        refine r_getq B hM 5 hL.1 rfl (by decide) rfl rfl (hL.2 5 _ _ rfl).1 q1387 dX3_putsBack_14 ?_
        refine lv_iload_n hx hb dX3_putsBack_17 rfl (lv_at hl 1 rfl) ?_
        refine r_ild B hM i (hL.2 5 _ _ rfl).2 rfl (by omega) (by decide) dX3_putsBack_18 ?_
        refine r_topv (v := ka 1005 i) (congrFun (hbu 1005 (by decide)) _) ?_
        refine r_ist B hM i (hL.2 0 _ _ rfl).2 rfl (by omega) (by decide) dX3_putsBack_19 (fun ka_1 H locs eka_1 hM => ?_)
        have hB_1 : But [1000] ka ka_1 := But.trans hbu (by rw [eka_1]; exact But.up (by decide))
        refine lv_iinc (v := nI (i + 1)) (lv' := [(1, .int (nI (i + 1))), (0, .ref y0)]) hx hb dX3_putsBack_20 hl (k := 1) rfl (nI_1 _) (by decide) rfl (fun ls hl => ?_)
        refine lv_goto (tgt := 2) hx hb dX3_putsBack_23 (by decide) ?_
        exact ih_loop (i + 1) ka_1 (by omega) (by omega) (cp_step eka_1 hk) hB_1 _ _ _ (lv_sub hl [1, 0] rfl) hM
  refine lv_iconst (v := 0) hx hb dX3_putsBack_0 (by decide) ?_
  refine lv_istore_n (lv' := [(1, .int 0), (0, .ref y0)]) hx hb dX3_putsBack_1 rfl hl (by decide) rfl (fun ls hl => ?_)
  exact loop 108 0 ka (by omega) (Nat.zero_le _) (fun j => by rw [if_neg (Nat.not_lt_zero _)]) But.refl _ _ _ (lv_sub hl [1, 0] rfl) hM
set_option maxHeartbeats 4000000 in
theorem ok_copyAll {qa qb pa pb : Nat} (ha : th qa = some (pa, .inr (0, 1479))) (hb2 : th qb = some (pb, .inr (0, 1479))) (hne : ¬ pa = pb) : Met l yX3_copyAll (ws_ yX3_copyAll cX3_copyAll 3 none) (RM 1 0 0) (Pc_ G [.ref qa, .ref qb] th rh ph ka) (Qv G th rh ph (fun ka' => ka' pb = cpT (ka pa) (ka pb) ∧ But [pb] ka ka')) 0 0 (frG G) := by
  refine m_of (by decide) (Nat.le_of_ble_eq_true rfl) ?_
  intro p_ e_ s_ m_ below_ meth_ c_ B hr hnm ls hl hM
  have hx := B.1
  have hb := B.2.1
  have hM := hM
  have loop : ∀ (fu_loop : Nat) (i : Nat) (kb : Ka), 1479 - i < fu_loop → (i ≤ 1479) → (∀ j, kb pb j = if j < i then ka pa j else ka pb j) → (But [pb] ka kb) → ∀ (ls : Array Slot) (H : Heap) (locs : List Loc), lv_has ls 3 [(0, .ref qa), (1, .ref qb), (2, .int (nI i))] → Md G th rh ph kb H locs → W p_ l e_ (RM 1 0 0) s_ m_ ([.ref qa, .ref qb].toArray) below_ meth_ c_ H locs 0 0 (MQ below_ (Qv G th rh ph (fun ka' => ka' pb = cpT (ka pa) (ka pb) ∧ But [pb] ka ka')) ([.ref qa, .ref qb].toArray) s_ 0 0 (frG G)) (F0 m_ 2 ls []) := by
    intro fu_loop
    induction fu_loop with
    | zero => intro i kb hfu; exact absurd hfu (Nat.not_lt_zero _)
    | succ fu_loop ih_loop =>
      intro i kb hfu_loop hi hk hbu ls H locs hl hM
      refine lv_iload_n hx hb dX3_copyAll_2 rfl (lv_at hl 2 rfl) ?_
      refine lv_sipush (v := 1479) hx hb dX3_copyAll_3 (by decide) ?_
      refine lv_icmp_ge (tgt := 21) hx hb dX3_copyAll_6 (by decide) (fun c6 => ?_) (fun c6 => ?_)
      · have n6 : 1479 ≤ i := ntLe rfl rfl (by omega) (by omega) c6
        refine r_vret B hr hM dX3_copyAll_21 ?_
        have hin : i = 1479 := by omega
        subst hin
        exact ⟨funext hk, hbu⟩
      · have n6 : i < 1479 := ntNle rfl rfl (by omega) (by omega) c6
        refine lv_aload_n hx hb dX3_copyAll_9 rfl (lv_at hl 1 rfl) ?_
        refine lv_iload_n hx hb dX3_copyAll_10 rfl (lv_at hl 2 rfl) ?_
        refine lv_aload_n hx hb dX3_copyAll_11 rfl (lv_at hl 0 rfl) ?_
        refine lv_iload_n hx hb dX3_copyAll_12 rfl (lv_at hl 2 rfl) ?_
        refine r_ild B hM i ha rfl (by omega) (by decide) dX3_copyAll_13 ?_
        refine r_topv (v := ka pa i) (congrFun (hbu pa (fun z => hne (List.mem_singleton.mp z))) _) ?_
        refine r_ist B hM i hb2 rfl (by omega) (by decide) dX3_copyAll_14 (fun ka_1 H locs eka_1 hM => ?_)
        refine lv_iinc (v := nI (i + 1)) (lv' := [(2, .int (nI (i + 1))), (0, .ref qa), (1, .ref qb)]) hx hb dX3_copyAll_15 hl (k := 2) rfl (nI_1 _) (by decide) rfl (fun ls hl => ?_)
        refine lv_goto (tgt := 2) hx hb dX3_copyAll_18 (by decide) ?_
        exact ih_loop (i + 1) ka_1 (by omega) (by omega) (cp_step eka_1 hk) (But.trans hbu (by rw [eka_1]; exact But.up (List.mem_singleton.mpr rfl))) _ _ _ (lv_sub hl [1, 2, 0] rfl) hM
  refine lv_iconst (v := 0) hx hb dX3_copyAll_0 (by decide) ?_
  refine lv_istore_n (lv' := [(2, .int 0), (0, .ref qa), (1, .ref qb)]) hx hb dX3_copyAll_1 rfl hl (by decide) rfl (fun ls hl => ?_)
  exact loop 1480 0 ka (by omega) (Nat.zero_le _) (fun j => by rw [if_neg (Nat.not_lt_zero _)]) But.refl _ _ _ (lv_sub hl [1, 2, 0] rfl) hM
set_option maxHeartbeats 4000000 in
theorem ok_areJoined (hL : LayM th rh y0 ay) (hR : Rok (ka 1000)) {a b : Nat} : Met l yX3_areJoined (ws_ yX3_areJoined cX3_areJoined 5 (some .boolean)) (RM 2 0 0) (Pc_ G [.ref y0, .int (nI a), .int (nI b)] th rh ph ka) (Qp G th rh ph ka (fun r => (r = 1 ∧ joinT (ka 1000) a b (nP (ka 1000))) ∨ (r = 0 ∧ ¬ joinT (ka 1000) a b (nP (ka 1000))))) 0 0 (frG G) := by
  refine m_of (by decide) (Nat.le_of_ble_eq_true rfl) ?_
  intro p_ e_ s_ m_ below_ meth_ c_ B hr hnm ls hl hM
  have hx := B.1
  have hb := B.2.1
  have hM := hM
  have h13 := hR.2.1.2
  have loop : ∀ (fu_loop : Nat) (i : Nat) (z : Int32), nP (ka 1000) - i < fu_loop → (i ≤ nP (ka 1000)) → ((z = 1 ∧ joinT (ka 1000) a b i) ∨ (z = 0 ∧ ¬ joinT (ka 1000) a b i)) → ∀ (ls : Array Slot) (H : Heap) (locs : List Loc), lv_has ls 5 [(0, .ref y0), (1, .int (nI a)), (2, .int (nI b)), (3, .int z), (4, .int (nI i))] → Md G th rh ph ka H locs → W p_ l e_ (RM 2 0 0) s_ m_ ([.ref y0, .int (nI a), .int (nI b)].toArray) below_ meth_ c_ H locs 0 0 (MQ below_ (Qp G th rh ph ka (fun r => (r = 1 ∧ joinT (ka 1000) a b (nP (ka 1000))) ∨ (r = 0 ∧ ¬ joinT (ka 1000) a b (nP (ka 1000))))) ([.ref y0, .int (nI a), .int (nI b)].toArray) s_ 0 0 (frG G)) (F0 m_ 5 ls []) := by
    intro fu_loop
    induction fu_loop with
    | zero => intro i z hfu; exact absurd hfu (Nat.not_lt_zero _)
    | succ fu_loop ih_loop =>
      intro i z hfu_loop hi hz ls H locs hl hM
      refine lv_iload hx hb dX3_areJoined_5 (lv_at hl 4 rfl) ?_
      refine lv_aload_n hx hb dX3_areJoined_7 rfl (lv_at hl 0 rfl) ?_
      refine r_getq B hM 0 hL.1 rfl (by decide) rfl rfl (hL.2 0 _ _ rfl).1 q1382 dX3_areJoined_8 ?_
      refine lv_iconst (v := 2) hx hb dX3_areJoined_11 (by decide) ?_
      refine r_ild B hM 2 (hL.2 0 _ _ rfl).2 rfl (by decide) (by decide) dX3_areJoined_12 ?_
      refine lv_icmp_ge (tgt := 76) hx hb dX3_areJoined_13 (by decide) (fun c13 => ?_) (fun c13 => ?_)
      · have n13 : nP (ka 1000) ≤ i := ntLe (by rw [hR.2.1.1]) rfl (by omega) (by omega) c13
        refine lv_iload_n hx hb dX3_areJoined_76 rfl (lv_at hl 3 rfl) ?_
        refine r_zretp B hr hM dX3_areJoined_77 (by rcases hz with h | h; exact Or.inr h.1; exact Or.inl h.1) ?_
        have hin : i = nP (ka 1000) := by omega
        subst hin
        exact hz
      · have n13 : i < nP (ka 1000) := ntNle (by rw [hR.2.1.1]) rfl (by omega) (by omega) c13
        refine lv_iload_n hx hb dX3_areJoined_16 rfl (lv_at hl 3 rfl) ?_
        refine lv_if_ne (tgt := 64) hx hb dX3_areJoined_17 (by decide) (fun c17 => ?_) (fun c17 => ?_)
        · refine lv_iconst (v := 1) hx hb dX3_areJoined_64 (by decide) ?_
          refine lv_goto (tgt := 69) hx hb dX3_areJoined_65 (by decide) ?_
          refine lv_istore_n (lv' := [(3, .int 1), (0, .ref y0), (1, .int (nI a)), (2, .int (nI b)), (4, .int (nI i))]) hx hb dX3_areJoined_69 rfl hl (by decide) rfl (fun ls hl => ?_)
          refine lv_iinc (v := nI (i + 1)) (lv' := [(4, .int (nI (i + 1))), (3, .int 1), (0, .ref y0), (1, .int (nI a)), (2, .int (nI b))]) hx hb dX3_areJoined_70 hl (k := 4) rfl (nI_1 _) (by decide) rfl (fun ls hl => ?_)
          refine lv_goto (tgt := 5) hx hb dX3_areJoined_73 (by decide) ?_
          exact ih_loop (i + 1) 1 (by omega) (by omega) (by rw [joinT_s]; grind) _ _ _ (lv_sub hl [2, 3, 4, 1, 0] rfl) hM
        · refine lv_aload_n hx hb dX3_areJoined_20 rfl (lv_at hl 0 rfl) ?_
          refine lv_iload hx hb dX3_areJoined_21 (lv_at hl 4 rfl) ?_
          refine lv_iconst (v := 0) hx hb dX3_areJoined_23 (by decide) ?_
          refine k_pe (v := ka 1000 (55 + 4 * i + 0)) (r_V (As := [.int (nI i), .int 0]) (rest := []) B hM hL.1 rfl rfl (ok_at hL (c := i) (w := 0) (by omega) (by omega)) cal_X3_at q1596 rfl hl.1 (Nat.le_of_ble_eq_true rfl) dX3_areJoined_24 ⟨Nat.le_of_ble_eq_true rfl, Nat.le_of_ble_eq_true rfl⟩ ⟨Nat.le_of_ble_eq_true rfl, Nat.le_of_ble_eq_true rfl⟩) hM (fun H locs hM => ?_)
          refine lv_iload_n hx hb dX3_areJoined_27 rfl (lv_at hl 1 rfl) ?_
          refine lv_icmp_ne (tgt := 42) hx hb dX3_areJoined_28 (by decide) (fun c28 => ?_) (fun c28 => ?_)
          · refine lv_aload_n hx hb dX3_areJoined_42 rfl (lv_at hl 0 rfl) ?_
            refine lv_iload hx hb dX3_areJoined_43 (lv_at hl 4 rfl) ?_
            refine lv_iconst (v := 0) hx hb dX3_areJoined_45 (by decide) ?_
            refine k_pe (v := ka 1000 (55 + 4 * i + 0)) (r_V (As := [.int (nI i), .int 0]) (rest := []) B hM hL.1 rfl rfl (ok_at hL (c := i) (w := 0) (by omega) (by omega)) cal_X3_at q1596 rfl hl.1 (Nat.le_of_ble_eq_true rfl) dX3_areJoined_46 ⟨Nat.le_of_ble_eq_true rfl, Nat.le_of_ble_eq_true rfl⟩ ⟨Nat.le_of_ble_eq_true rfl, Nat.le_of_ble_eq_true rfl⟩) hM (fun H locs hM => ?_)
            refine lv_iload_n hx hb dX3_areJoined_49 rfl (lv_at hl 2 rfl) ?_
            refine lv_icmp_ne (tgt := 68) hx hb dX3_areJoined_50 (by decide) (fun c50 => ?_) (fun c50 => ?_)
            · refine lv_iconst (v := 0) hx hb dX3_areJoined_68 (by decide) ?_
              refine lv_istore_n (lv' := [(3, .int 0), (0, .ref y0), (1, .int (nI a)), (2, .int (nI b)), (4, .int (nI i))]) hx hb dX3_areJoined_69 rfl hl (by decide) rfl (fun ls hl => ?_)
              refine lv_iinc (v := nI (i + 1)) (lv' := [(4, .int (nI (i + 1))), (3, .int 0), (0, .ref y0), (1, .int (nI a)), (2, .int (nI b))]) hx hb dX3_areJoined_70 hl (k := 4) rfl (nI_1 _) (by decide) rfl (fun ls hl => ?_)
              refine lv_goto (tgt := 5) hx hb dX3_areJoined_73 (by decide) ?_
              exact ih_loop (i + 1) 0 (by omega) (by omega) (by rw [joinT_s]; grind) _ _ _ (lv_sub hl [2, 3, 4, 1, 0] rfl) hM
            · refine lv_aload_n hx hb dX3_areJoined_53 rfl (lv_at hl 0 rfl) ?_
              refine lv_iload hx hb dX3_areJoined_54 (lv_at hl 4 rfl) ?_
              refine lv_iconst (v := 1) hx hb dX3_areJoined_56 (by decide) ?_
              refine k_pe (v := ka 1000 (55 + 4 * i + 1)) (r_V (As := [.int (nI i), .int 1]) (rest := []) B hM hL.1 rfl rfl (ok_at hL (c := i) (w := 1) (by omega) (by omega)) cal_X3_at q1596 rfl hl.1 (Nat.le_of_ble_eq_true rfl) dX3_areJoined_57 ⟨Nat.le_of_ble_eq_true rfl, Nat.le_of_ble_eq_true rfl⟩ ⟨Nat.le_of_ble_eq_true rfl, Nat.le_of_ble_eq_true rfl⟩) hM (fun H locs hM => ?_)
              refine lv_iload_n hx hb dX3_areJoined_60 rfl (lv_at hl 1 rfl) ?_
              refine lv_icmp_ne (tgt := 68) hx hb dX3_areJoined_61 (by decide) (fun c61 => ?_) (fun c61 => ?_)
              · refine lv_iconst (v := 0) hx hb dX3_areJoined_68 (by decide) ?_
                refine lv_istore_n (lv' := [(3, .int 0), (0, .ref y0), (1, .int (nI a)), (2, .int (nI b)), (4, .int (nI i))]) hx hb dX3_areJoined_69 rfl hl (by decide) rfl (fun ls hl => ?_)
                refine lv_iinc (v := nI (i + 1)) (lv' := [(4, .int (nI (i + 1))), (3, .int 0), (0, .ref y0), (1, .int (nI a)), (2, .int (nI b))]) hx hb dX3_areJoined_70 hl (k := 4) rfl (nI_1 _) (by decide) rfl (fun ls hl => ?_)
                refine lv_goto (tgt := 5) hx hb dX3_areJoined_73 (by decide) ?_
                exact ih_loop (i + 1) 0 (by omega) (by omega) (by rw [joinT_s]; grind) _ _ _ (lv_sub hl [2, 3, 4, 1, 0] rfl) hM
              · refine lv_iconst (v := 1) hx hb dX3_areJoined_64 (by decide) ?_
                refine lv_goto (tgt := 69) hx hb dX3_areJoined_65 (by decide) ?_
                refine lv_istore_n (lv' := [(3, .int 1), (0, .ref y0), (1, .int (nI a)), (2, .int (nI b)), (4, .int (nI i))]) hx hb dX3_areJoined_69 rfl hl (by decide) rfl (fun ls hl => ?_)
                refine lv_iinc (v := nI (i + 1)) (lv' := [(4, .int (nI (i + 1))), (3, .int 1), (0, .ref y0), (1, .int (nI a)), (2, .int (nI b))]) hx hb dX3_areJoined_70 hl (k := 4) rfl (nI_1 _) (by decide) rfl (fun ls hl => ?_)
                refine lv_goto (tgt := 5) hx hb dX3_areJoined_73 (by decide) ?_
                exact ih_loop (i + 1) 1 (by omega) (by omega) (by rw [joinT_s]; grind) _ _ _ (lv_sub hl [2, 3, 4, 1, 0] rfl) hM
          · refine lv_aload_n hx hb dX3_areJoined_31 rfl (lv_at hl 0 rfl) ?_
            refine lv_iload hx hb dX3_areJoined_32 (lv_at hl 4 rfl) ?_
            refine lv_iconst (v := 1) hx hb dX3_areJoined_34 (by decide) ?_
            refine k_pe (v := ka 1000 (55 + 4 * i + 1)) (r_V (As := [.int (nI i), .int 1]) (rest := []) B hM hL.1 rfl rfl (ok_at hL (c := i) (w := 1) (by omega) (by omega)) cal_X3_at q1596 rfl hl.1 (Nat.le_of_ble_eq_true rfl) dX3_areJoined_35 ⟨Nat.le_of_ble_eq_true rfl, Nat.le_of_ble_eq_true rfl⟩ ⟨Nat.le_of_ble_eq_true rfl, Nat.le_of_ble_eq_true rfl⟩) hM (fun H locs hM => ?_)
            refine lv_iload_n hx hb dX3_areJoined_38 rfl (lv_at hl 2 rfl) ?_
            refine lv_icmp_eq (tgt := 64) hx hb dX3_areJoined_39 (by decide) (fun c39 => ?_) (fun c39 => ?_)
            · refine lv_iconst (v := 1) hx hb dX3_areJoined_64 (by decide) ?_
              refine lv_goto (tgt := 69) hx hb dX3_areJoined_65 (by decide) ?_
              refine lv_istore_n (lv' := [(3, .int 1), (0, .ref y0), (1, .int (nI a)), (2, .int (nI b)), (4, .int (nI i))]) hx hb dX3_areJoined_69 rfl hl (by decide) rfl (fun ls hl => ?_)
              refine lv_iinc (v := nI (i + 1)) (lv' := [(4, .int (nI (i + 1))), (3, .int 1), (0, .ref y0), (1, .int (nI a)), (2, .int (nI b))]) hx hb dX3_areJoined_70 hl (k := 4) rfl (nI_1 _) (by decide) rfl (fun ls hl => ?_)
              refine lv_goto (tgt := 5) hx hb dX3_areJoined_73 (by decide) ?_
              exact ih_loop (i + 1) 1 (by omega) (by omega) (by rw [joinT_s]; grind) _ _ _ (lv_sub hl [2, 3, 4, 1, 0] rfl) hM
            · refine lv_aload_n hx hb dX3_areJoined_42 rfl (lv_at hl 0 rfl) ?_
              refine lv_iload hx hb dX3_areJoined_43 (lv_at hl 4 rfl) ?_
              refine lv_iconst (v := 0) hx hb dX3_areJoined_45 (by decide) ?_
              refine k_pe (v := ka 1000 (55 + 4 * i + 0)) (r_V (As := [.int (nI i), .int 0]) (rest := []) B hM hL.1 rfl rfl (ok_at hL (c := i) (w := 0) (by omega) (by omega)) cal_X3_at q1596 rfl hl.1 (Nat.le_of_ble_eq_true rfl) dX3_areJoined_46 ⟨Nat.le_of_ble_eq_true rfl, Nat.le_of_ble_eq_true rfl⟩ ⟨Nat.le_of_ble_eq_true rfl, Nat.le_of_ble_eq_true rfl⟩) hM (fun H locs hM => ?_)
              refine lv_iload_n hx hb dX3_areJoined_49 rfl (lv_at hl 2 rfl) ?_
              refine lv_icmp_ne (tgt := 68) hx hb dX3_areJoined_50 (by decide) (fun c50 => ?_) (fun c50 => ?_)
              · refine lv_iconst (v := 0) hx hb dX3_areJoined_68 (by decide) ?_
                refine lv_istore_n (lv' := [(3, .int 0), (0, .ref y0), (1, .int (nI a)), (2, .int (nI b)), (4, .int (nI i))]) hx hb dX3_areJoined_69 rfl hl (by decide) rfl (fun ls hl => ?_)
                refine lv_iinc (v := nI (i + 1)) (lv' := [(4, .int (nI (i + 1))), (3, .int 0), (0, .ref y0), (1, .int (nI a)), (2, .int (nI b))]) hx hb dX3_areJoined_70 hl (k := 4) rfl (nI_1 _) (by decide) rfl (fun ls hl => ?_)
                refine lv_goto (tgt := 5) hx hb dX3_areJoined_73 (by decide) ?_
                exact ih_loop (i + 1) 0 (by omega) (by omega) (by rw [joinT_s]; grind) _ _ _ (lv_sub hl [2, 3, 4, 1, 0] rfl) hM
              · refine lv_aload_n hx hb dX3_areJoined_53 rfl (lv_at hl 0 rfl) ?_
                refine lv_iload hx hb dX3_areJoined_54 (lv_at hl 4 rfl) ?_
                refine lv_iconst (v := 1) hx hb dX3_areJoined_56 (by decide) ?_
                refine k_pe (v := ka 1000 (55 + 4 * i + 1)) (r_V (As := [.int (nI i), .int 1]) (rest := []) B hM hL.1 rfl rfl (ok_at hL (c := i) (w := 1) (by omega) (by omega)) cal_X3_at q1596 rfl hl.1 (Nat.le_of_ble_eq_true rfl) dX3_areJoined_57 ⟨Nat.le_of_ble_eq_true rfl, Nat.le_of_ble_eq_true rfl⟩ ⟨Nat.le_of_ble_eq_true rfl, Nat.le_of_ble_eq_true rfl⟩) hM (fun H locs hM => ?_)
                refine lv_iload_n hx hb dX3_areJoined_60 rfl (lv_at hl 1 rfl) ?_
                refine lv_icmp_ne (tgt := 68) hx hb dX3_areJoined_61 (by decide) (fun c61 => ?_) (fun c61 => ?_)
                · refine lv_iconst (v := 0) hx hb dX3_areJoined_68 (by decide) ?_
                  refine lv_istore_n (lv' := [(3, .int 0), (0, .ref y0), (1, .int (nI a)), (2, .int (nI b)), (4, .int (nI i))]) hx hb dX3_areJoined_69 rfl hl (by decide) rfl (fun ls hl => ?_)
                  refine lv_iinc (v := nI (i + 1)) (lv' := [(4, .int (nI (i + 1))), (3, .int 0), (0, .ref y0), (1, .int (nI a)), (2, .int (nI b))]) hx hb dX3_areJoined_70 hl (k := 4) rfl (nI_1 _) (by decide) rfl (fun ls hl => ?_)
                  refine lv_goto (tgt := 5) hx hb dX3_areJoined_73 (by decide) ?_
                  exact ih_loop (i + 1) 0 (by omega) (by omega) (by rw [joinT_s]; grind) _ _ _ (lv_sub hl [2, 3, 4, 1, 0] rfl) hM
                · refine lv_iconst (v := 1) hx hb dX3_areJoined_64 (by decide) ?_
                  refine lv_goto (tgt := 69) hx hb dX3_areJoined_65 (by decide) ?_
                  refine lv_istore_n (lv' := [(3, .int 1), (0, .ref y0), (1, .int (nI a)), (2, .int (nI b)), (4, .int (nI i))]) hx hb dX3_areJoined_69 rfl hl (by decide) rfl (fun ls hl => ?_)
                  refine lv_iinc (v := nI (i + 1)) (lv' := [(4, .int (nI (i + 1))), (3, .int 1), (0, .ref y0), (1, .int (nI a)), (2, .int (nI b))]) hx hb dX3_areJoined_70 hl (k := 4) rfl (nI_1 _) (by decide) rfl (fun ls hl => ?_)
                  refine lv_goto (tgt := 5) hx hb dX3_areJoined_73 (by decide) ?_
                  exact ih_loop (i + 1) 1 (by omega) (by omega) (by rw [joinT_s]; grind) _ _ _ (lv_sub hl [2, 3, 4, 1, 0] rfl) hM
  refine lv_iconst (v := 0) hx hb dX3_areJoined_0 (by decide) ?_
  refine lv_istore_n (lv' := [(3, .int 0), (0, .ref y0), (1, .int (nI a)), (2, .int (nI b))]) hx hb dX3_areJoined_1 rfl hl (by decide) rfl (fun ls hl => ?_)
  refine lv_iconst (v := 0) hx hb dX3_areJoined_2 (by decide) ?_
  refine lv_istore (lv' := [(4, .int 0), (3, .int 0), (0, .ref y0), (1, .int (nI a)), (2, .int (nI b))]) hx hb dX3_areJoined_3 hl (by decide) rfl (fun ls hl => ?_)
  exact loop (nP (ka 1000) + 1) 0 0 (by omega) (Nat.zero_le _) (Or.inr ⟨rfl, joinT_0⟩) _ _ _ (lv_sub hl [2, 3, 4, 1, 0] rfl) hM
end
