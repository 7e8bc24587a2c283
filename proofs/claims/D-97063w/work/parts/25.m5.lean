/-! the model: an hour -/
set_option maxRecDepth 100000
section
variable {l : Launch} {G : GG} {th : Th} {rh : Rh} {ph : Ph} {ka : Ka} {y0 : Nat} {ay : Nat → Nat}
set_option maxHeartbeats 4000000 in
theorem ok_drains (hL : LayM th rh y0 ay) {c : Nat} (hc : c < 8) (n : Int32) : Met l yX3_drains (ws_ yX3_drains cX3_drains 8 none) (RM 3 0 0) (Pc_ G [.ref y0, .int (nI c), .int n] th rh ph ka) (Qv G th rh ph (fun ka' => ka' 1000 = drT (ka 1000) c n ∧ (∀ k, k < 3 → ka' 1004 k = goT (ka 1000) c n k) ∧ But [1000, 1004] ka ka')) 0 0 (frG G) := by
  refine m_of (by decide) (Nat.le_of_ble_eq_true rfl) ?_
  intro p_ e_ s_ m_ below_ meth_ c_ B hr hnm ls hl hM
  have hx := B.1
  have hb := B.2.1
  have hM := hM
  refine lv_aload_n hx hb dX3_drains_0 rfl (lv_at hl 0 rfl) ?_
  refine lv_iload_n hx hb dX3_drains_1 rfl (lv_at hl 1 rfl) ?_
  refine k_pe (v := fullT (ka 1000) c) (r_V (As := [.int (nI c)]) (rest := []) B hM hL.1 rfl rfl (ok_fullOf hL (c := c) (by omega)) cal_X3_fullOf q1514 rfl hl.1 (Nat.le_of_ble_eq_true rfl) dX3_drains_2 ⟨Nat.le_of_ble_eq_true rfl, Nat.le_of_ble_eq_true rfl⟩ ⟨Nat.le_of_ble_eq_true rfl, Nat.le_of_ble_eq_true rfl⟩) hM (fun H locs hM => ?_)
  refine lv_topi (fun v_1 ev_1 => ?_)
  refine lv_istore_n (lv' := [(3, .int v_1), (0, .ref y0), (1, .int (nI c)), (2, .int n)]) hx hb dX3_drains_5 rfl hl (by decide) rfl (fun ls hl => ?_)
  refine lv_iload_n hx hb dX3_drains_6 rfl (lv_at hl 3 rfl) ?_
  refine lv_istore (lv' := [(4, .int n), (3, .int v_1), (0, .ref y0), (1, .int (nI c)), (2, .int n)]) hx hb dX3_drains_7 hl (by decide) rfl (fun ls hl => ?_)
  refine lv_iconst (v := 0) hx hb dX3_drains_9 (by decide) ?_
  refine lv_istore (lv' := [(5, .int 0), (4, .int n), (3, .int v_1), (0, .ref y0), (1, .int (nI c)), (2, .int n)]) hx hb dX3_drains_10 hl (by decide) rfl (fun ls hl => ?_)
  refine lv_iload hx hb dX3_drains_12 (lv_at hl 0 rfl) ?_
  refine lv_iconst (v := 3) hx hb dX3_drains_14 (by decide) ?_
  refine lv_icmp_ge (tgt := 68) hx hb dX3_drains_15 (by decide) (fun cZ => absurd cZ (by decide)) (fun c15 => ?_)
  refine lv_aload_n hx hb dX3_drains_18 rfl (lv_at hl 3 rfl) ?_
  refine r_getq B hM 4 hL.1 rfl (by decide) rfl rfl (hL.2 4 _ _ rfl).1 q1386 dX3_drains_19 ?_
  refine lv_iload hx hb dX3_drains_22 (lv_at hl 0 rfl) ?_
  refine lv_iload_n hx hb dX3_drains_24 rfl (lv_at hl 2 rfl) ?_
  refine lv_if_ne (tgt := 32) hx hb dX3_drains_25 (by decide) (fun c25 => ?_) (fun c25 => ?_)
  · refine lv_aload_n hx hb dX3_drains_32 rfl (lv_at hl 3 rfl) ?_
    refine lv_iload_n hx hb dX3_drains_33 rfl (lv_at hl 4 rfl) ?_
    refine lv_iconst (v := 3) hx hb dX3_drains_34 (by decide) ?_
    refine lv_iload hx hb dX3_drains_35 (lv_at hl 0 rfl) ?_
    refine lv_iadd hx hb dX3_drains_37 ?_
    refine W.eq (g2 := F0 m_ 38 ls (.int 3 :: [.int (nI c), .ref y0, .int 0, .ref (ay 4)])) rfl ?_
    refine k_pe (v := ka 1000 (7 + 6 * c + 3)) (r_V (As := [.int (nI c), .int 3]) (rest := [.int 0, .ref (ay 4)]) B hM hL.1 rfl rfl (ok_of hL (c := c) (w := 3) (by omega) (by omega)) cal_X3_of q1510 rfl hl.1 (Nat.le_of_ble_eq_true rfl) dX3_drains_38 ⟨Nat.le_of_ble_eq_true rfl, Nat.le_of_ble_eq_true rfl⟩ ⟨Nat.le_of_ble_eq_true rfl, Nat.le_of_ble_eq_true rfl⟩) hM (fun H locs hM => ?_)
    refine lv_i2l hx hb dX3_drains_41 rfl ?_
    refine lv_iload_n hx hb dX3_drains_42 rfl (lv_at hl 5 rfl) ?_
    refine lv_i2l hx hb dX3_drains_43 rfl ?_
    refine lv_lmul hx hb dX3_drains_44 ?_
    refine lv_iload_n hx hb dX3_drains_45 rfl (lv_at hl 2 rfl) ?_
    refine lv_i2l hx hb dX3_drains_46 rfl ?_
    refine lv_ldiv hx hb dX3_drains_47 (i2l_ne c25) ?_
    refine lv_l2i hx hb dX3_drains_48 rfl ?_
    refine r_topv (v := sh0 (ka 1000) c n 0) (by rw [sh0, if_neg (by rw [← ev_1]; exact c25), ev_1]) ?_
    refine r_ist B hM 0 (hL.2 4 _ _ rfl).2 rfl (by decide) (by decide) dX3_drains_49 (fun ka_2 H locs eka_2 hM => ?_)
    have hB_2 : But [1000, 1004] ka ka_2 := But.trans But.refl (by rw [eka_2]; exact But.up (by decide))
    refine lv_iload hx hb dX3_drains_50 (lv_at hl 1 rfl) ?_
    refine lv_aload_n hx hb dX3_drains_52 rfl (lv_at hl 3 rfl) ?_
    refine r_getq B hM 4 hL.1 rfl (by decide) rfl rfl (hL.2 4 _ _ rfl).1 q1386 dX3_drains_53 ?_
    refine lv_iload hx hb dX3_drains_56 (lv_at hl 0 rfl) ?_
    refine r_ild B hM 0 (hL.2 4 _ _ rfl).2 rfl (by decide) (by decide) dX3_drains_58 ?_
    refine r_topv (v := sh0 (ka 1000) c n 0) (by rw [eka_2, up2_s]) ?_
    refine lv_isub hx hb dX3_drains_59 ?_
    refine lv_topi (fun v_3 ev_3 => ?_)
    refine lv_istore (lv' := [(4, .int v_3), (5, .int 0), (3, .int v_1), (0, .ref y0), (1, .int (nI c)), (2, .int n)]) hx hb dX3_drains_60 hl (by decide) rfl (fun ls hl => ?_)
    refine lv_iinc (v := 1) (lv' := [(5, .int 1), (4, .int v_3), (3, .int v_1), (0, .ref y0), (1, .int (nI c)), (2, .int n)]) hx hb dX3_drains_62 hl (k := 1) rfl (by decide) (by decide) rfl (fun ls hl => ?_)
    refine lv_goto (tgt := 12) hx hb dX3_drains_65 (by decide) ?_
    refine lv_iload hx hb dX3_drains_12 (lv_at hl 0 rfl) ?_
    refine lv_iconst (v := 3) hx hb dX3_drains_14 (by decide) ?_
    refine lv_icmp_ge (tgt := 68) hx hb dX3_drains_15 (by decide) (fun cZ => absurd cZ (by decide)) (fun c15 => ?_)
    refine lv_aload_n hx hb dX3_drains_18 rfl (lv_at hl 3 rfl) ?_
    refine r_getq B hM 4 hL.1 rfl (by decide) rfl rfl (hL.2 4 _ _ rfl).1 q1386 dX3_drains_19 ?_
    refine lv_iload hx hb dX3_drains_22 (lv_at hl 0 rfl) ?_
    refine lv_iload_n hx hb dX3_drains_24 rfl (lv_at hl 2 rfl) ?_
    refine lv_if_ne (tgt := 32) hx hb dX3_drains_25 (by decide) (fun c25 => ?_) (fun cZ => absurd cZ c25)
    refine lv_aload_n hx hb dX3_drains_32 rfl (lv_at hl 3 rfl) ?_
    refine lv_iload_n hx hb dX3_drains_33 rfl (lv_at hl 4 rfl) ?_
    refine lv_iconst (v := 3) hx hb dX3_drains_34 (by decide) ?_
    refine lv_iload hx hb dX3_drains_35 (lv_at hl 0 rfl) ?_
    refine lv_iadd hx hb dX3_drains_37 ?_
    refine W.eq (g2 := F0 m_ 38 ls (.int 4 :: [.int (nI c), .ref y0, .int 1, .ref (ay 4)])) rfl ?_
    refine k_pe (v := ka_2 1000 (7 + 6 * c + 4)) (r_V (As := [.int (nI c), .int 4]) (rest := [.int 1, .ref (ay 4)]) B hM hL.1 rfl rfl (ok_of hL (c := c) (w := 4) (by omega) (by omega)) cal_X3_of q1510 rfl hl.1 (Nat.le_of_ble_eq_true rfl) dX3_drains_38 ⟨Nat.le_of_ble_eq_true rfl, Nat.le_of_ble_eq_true rfl⟩ ⟨Nat.le_of_ble_eq_true rfl, Nat.le_of_ble_eq_true rfl⟩) hM (fun H locs hM => ?_)
    refine r_topv (v := ka 1000 (7 + 6 * c + 4)) (by rw [eka_2, up2_a _ _ _ (by decide)]) ?_
    refine lv_i2l hx hb dX3_drains_41 rfl ?_
    refine lv_iload_n hx hb dX3_drains_42 rfl (lv_at hl 5 rfl) ?_
    refine lv_i2l hx hb dX3_drains_43 rfl ?_
    refine lv_lmul hx hb dX3_drains_44 ?_
    refine lv_iload_n hx hb dX3_drains_45 rfl (lv_at hl 2 rfl) ?_
    refine lv_i2l hx hb dX3_drains_46 rfl ?_
    refine lv_ldiv hx hb dX3_drains_47 (i2l_ne c25) ?_
    refine lv_l2i hx hb dX3_drains_48 rfl ?_
    refine r_topv (v := sh0 (ka 1000) c n 1) (by rw [sh0, if_neg (by rw [← ev_1]; exact c25), ev_1]) ?_
    refine r_ist B hM 1 (hL.2 4 _ _ rfl).2 rfl (by decide) (by decide) dX3_drains_49 (fun ka_4 H locs eka_4 hM => ?_)
    have hB_4 : But [1000, 1004] ka ka_4 := But.trans hB_2 (by rw [eka_4]; exact But.up (by decide))
    refine lv_iload hx hb dX3_drains_50 (lv_at hl 1 rfl) ?_
    refine lv_aload_n hx hb dX3_drains_52 rfl (lv_at hl 3 rfl) ?_
    refine r_getq B hM 4 hL.1 rfl (by decide) rfl rfl (hL.2 4 _ _ rfl).1 q1386 dX3_drains_53 ?_
    refine lv_iload hx hb dX3_drains_56 (lv_at hl 0 rfl) ?_
    refine r_ild B hM 1 (hL.2 4 _ _ rfl).2 rfl (by decide) (by decide) dX3_drains_58 ?_
    refine r_topv (v := sh0 (ka 1000) c n 1) (by rw [eka_4, up2_s]) ?_
    refine lv_isub hx hb dX3_drains_59 ?_
    refine lv_topi (fun v_5 ev_5 => ?_)
    refine lv_istore (lv' := [(4, .int v_5), (5, .int 1), (3, .int v_1), (0, .ref y0), (1, .int (nI c)), (2, .int n)]) hx hb dX3_drains_60 hl (by decide) rfl (fun ls hl => ?_)
    refine lv_iinc (v := 2) (lv' := [(5, .int 2), (4, .int v_5), (3, .int v_1), (0, .ref y0), (1, .int (nI c)), (2, .int n)]) hx hb dX3_drains_62 hl (k := 1) rfl (by decide) (by decide) rfl (fun ls hl => ?_)
    refine lv_goto (tgt := 12) hx hb dX3_drains_65 (by decide) ?_
    refine lv_iload hx hb dX3_drains_12 (lv_at hl 0 rfl) ?_
    refine lv_iconst (v := 3) hx hb dX3_drains_14 (by decide) ?_
    refine lv_icmp_ge (tgt := 68) hx hb dX3_drains_15 (by decide) (fun cZ => absurd cZ (by decide)) (fun c15 => ?_)
    refine lv_aload_n hx hb dX3_drains_18 rfl (lv_at hl 3 rfl) ?_
    refine r_getq B hM 4 hL.1 rfl (by decide) rfl rfl (hL.2 4 _ _ rfl).1 q1386 dX3_drains_19 ?_
    refine lv_iload hx hb dX3_drains_22 (lv_at hl 0 rfl) ?_
    refine lv_iload_n hx hb dX3_drains_24 rfl (lv_at hl 2 rfl) ?_
    refine lv_if_ne (tgt := 32) hx hb dX3_drains_25 (by decide) (fun c25 => ?_) (fun cZ => absurd cZ c25)
    refine lv_aload_n hx hb dX3_drains_32 rfl (lv_at hl 3 rfl) ?_
    refine lv_iload_n hx hb dX3_drains_33 rfl (lv_at hl 4 rfl) ?_
    refine lv_iconst (v := 3) hx hb dX3_drains_34 (by decide) ?_
    refine lv_iload hx hb dX3_drains_35 (lv_at hl 0 rfl) ?_
    refine lv_iadd hx hb dX3_drains_37 ?_
    refine W.eq (g2 := F0 m_ 38 ls (.int 5 :: [.int (nI c), .ref y0, .int 2, .ref (ay 4)])) rfl ?_
    refine k_pe (v := ka_4 1000 (7 + 6 * c + 5)) (r_V (As := [.int (nI c), .int 5]) (rest := [.int 2, .ref (ay 4)]) B hM hL.1 rfl rfl (ok_of hL (c := c) (w := 5) (by omega) (by omega)) cal_X3_of q1510 rfl hl.1 (Nat.le_of_ble_eq_true rfl) dX3_drains_38 ⟨Nat.le_of_ble_eq_true rfl, Nat.le_of_ble_eq_true rfl⟩ ⟨Nat.le_of_ble_eq_true rfl, Nat.le_of_ble_eq_true rfl⟩) hM (fun H locs hM => ?_)
    refine r_topv (v := ka 1000 (7 + 6 * c + 5)) (by rw [eka_4, up2_a _ _ _ (by decide), eka_2, up2_a _ _ _ (by decide)]) ?_
    refine lv_i2l hx hb dX3_drains_41 rfl ?_
    refine lv_iload_n hx hb dX3_drains_42 rfl (lv_at hl 5 rfl) ?_
    refine lv_i2l hx hb dX3_drains_43 rfl ?_
    refine lv_lmul hx hb dX3_drains_44 ?_
    refine lv_iload_n hx hb dX3_drains_45 rfl (lv_at hl 2 rfl) ?_
    refine lv_i2l hx hb dX3_drains_46 rfl ?_
    refine lv_ldiv hx hb dX3_drains_47 (i2l_ne c25) ?_
    refine lv_l2i hx hb dX3_drains_48 rfl ?_
    refine r_topv (v := sh0 (ka 1000) c n 2) (by rw [sh0, if_neg (by rw [← ev_1]; exact c25), ev_1]) ?_
    refine r_ist B hM 2 (hL.2 4 _ _ rfl).2 rfl (by decide) (by decide) dX3_drains_49 (fun ka_6 H locs eka_6 hM => ?_)
    have hB_6 : But [1000, 1004] ka ka_6 := But.trans hB_4 (by rw [eka_6]; exact But.up (by decide))
    refine lv_iload hx hb dX3_drains_50 (lv_at hl 1 rfl) ?_
    refine lv_aload_n hx hb dX3_drains_52 rfl (lv_at hl 3 rfl) ?_
    refine r_getq B hM 4 hL.1 rfl (by decide) rfl rfl (hL.2 4 _ _ rfl).1 q1386 dX3_drains_53 ?_
    refine lv_iload hx hb dX3_drains_56 (lv_at hl 0 rfl) ?_
    refine r_ild B hM 2 (hL.2 4 _ _ rfl).2 rfl (by decide) (by decide) dX3_drains_58 ?_
    refine r_topv (v := sh0 (ka 1000) c n 2) (by rw [eka_6, up2_s]) ?_
    refine lv_isub hx hb dX3_drains_59 ?_
    refine lv_topi (fun v_7 ev_7 => ?_)
    refine lv_istore (lv' := [(4, .int v_7), (5, .int 2), (3, .int v_1), (0, .ref y0), (1, .int (nI c)), (2, .int n)]) hx hb dX3_drains_60 hl (by decide) rfl (fun ls hl => ?_)
    refine lv_iinc (v := 3) (lv' := [(5, .int 3), (4, .int v_7), (3, .int v_1), (0, .ref y0), (1, .int (nI c)), (2, .int n)]) hx hb dX3_drains_62 hl (k := 1) rfl (by decide) (by decide) rfl (fun ls hl => ?_)
    refine lv_goto (tgt := 12) hx hb dX3_drains_65 (by decide) ?_
    refine lv_iload hx hb dX3_drains_12 (lv_at hl 0 rfl) ?_
    refine lv_iconst (v := 3) hx hb dX3_drains_14 (by decide) ?_
    refine lv_icmp_ge (tgt := 68) hx hb dX3_drains_15 (by decide) (fun c15 => ?_) (fun cZ => absurd (by decide) cZ)
    refine lv_iconst (v := 0) hx hb dX3_drains_68 (by decide) ?_
    refine lv_istore (lv' := [(5, .int 0), (4, .int v_7), (3, .int v_1), (0, .ref y0), (1, .int (nI c)), (2, .int n)]) hx hb dX3_drains_69 hl (by decide) rfl (fun ls hl => ?_)
    refine lv_iload hx hb dX3_drains_71 (lv_at hl 0 rfl) ?_
    refine lv_iconst (v := 3) hx hb dX3_drains_73 (by decide) ?_
    refine lv_icmp_ge (tgt := 164) hx hb dX3_drains_74 (by decide) (fun cZ => absurd cZ (by decide)) (fun c74 => ?_)
    refine lv_aload_n hx hb dX3_drains_77 rfl (lv_at hl 3 rfl) ?_
    refine lv_iload_n hx hb dX3_drains_78 rfl (lv_at hl 4 rfl) ?_
    refine lv_iconst (v := 3) hx hb dX3_drains_79 (by decide) ?_
    refine lv_iload hx hb dX3_drains_80 (lv_at hl 0 rfl) ?_
    refine lv_iadd hx hb dX3_drains_82 ?_
    refine W.eq (g2 := F0 m_ 83 ls (.int 3 :: [.int (nI c), .ref y0])) rfl ?_
    refine k_pe (v := ka_6 1000 (7 + 6 * c + 3)) (r_V (As := [.int (nI c), .int 3]) (rest := []) B hM hL.1 rfl rfl (ok_of hL (c := c) (w := 3) (by omega) (by omega)) cal_X3_of q1510 rfl hl.1 (Nat.le_of_ble_eq_true rfl) dX3_drains_83 ⟨Nat.le_of_ble_eq_true rfl, Nat.le_of_ble_eq_true rfl⟩ ⟨Nat.le_of_ble_eq_true rfl, Nat.le_of_ble_eq_true rfl⟩) hM (fun H locs hM => ?_)
    refine r_topv (v := ka 1000 (7 + 6 * c + 3)) (by rw [eka_6, up2_a _ _ _ (by decide), eka_4, up2_a _ _ _ (by decide), eka_2, up2_a _ _ _ (by decide)]) ?_
    refine lv_aload_n hx hb dX3_drains_86 rfl (lv_at hl 3 rfl) ?_
    refine r_getq B hM 4 hL.1 rfl (by decide) rfl rfl (hL.2 4 _ _ rfl).1 q1386 dX3_drains_87 ?_
    refine lv_iload hx hb dX3_drains_90 (lv_at hl 0 rfl) ?_
    refine r_ild B hM 0 (hL.2 4 _ _ rfl).2 rfl (by decide) (by decide) dX3_drains_92 ?_
    refine r_topv (v := sh0 (ka 1000) c n 0) (by rw [eka_6, up2_i _ _ _ _ (by decide), eka_4, up2_i _ _ _ _ (by decide), eka_2, up2_s]) ?_
    refine lv_isub hx hb dX3_drains_93 ?_
    refine lv_topi (fun v_8 ev_8 => ?_)
    refine lv_istore (lv' := [(6, .int v_8), (5, .int 0), (4, .int v_7), (3, .int v_1), (0, .ref y0), (1, .int (nI c)), (2, .int n)]) hx hb dX3_drains_94 hl (by decide) rfl (fun ls hl => ?_)
    refine lv_iload hx hb dX3_drains_96 (lv_at hl 2 rfl) ?_
    refine lv_iload hx hb dX3_drains_98 (lv_at hl 0 rfl) ?_
    have hlk0 : v_7 = lk0 (ka 1000) c n := by rw [ev_7, ev_5, ev_3]; rfl
    have hlf0 : v_8 = ka 1000 (7 + 6 * c + (3 + 0)) - sh0 (ka 1000) c n 0 := ev_8
    have J0 : ∀ (z0 : Int32) (ls : Array Slot) (H : Heap) (locs : List Loc), (z0 = mo0 (ka 1000) c n) → lv_has ls 8 [(6, .int v_8), (5, .int 0), (4, .int v_7), (3, .int v_1), (0, .ref y0), (1, .int (nI c)), (2, .int n)] → Md G th rh ph ka_6 H locs → W p_ l e_ (RM 3 0 0) s_ m_ ([.ref y0, .int (nI c), .int n].toArray) below_ meth_ c_ H locs 0 0 (MQ below_ (Qv G th rh ph (fun ka' => ka' 1000 = drT (ka 1000) c n ∧ (∀ k, k < 3 → ka' 1004 k = goT (ka 1000) c n k) ∧ But [1000, 1004] ka ka')) ([.ref y0, .int (nI c), .int n].toArray) s_ 0 0 (frG G)) (F0 m_ 110 ls [.int z0]) := by
      intro z0 ls H locs hz0 hl hM
      refine lv_istore (lv' := [(7, .int z0), (6, .int v_8), (5, .int 0), (4, .int v_7), (3, .int v_1), (0, .ref y0), (1, .int (nI c)), (2, .int n)]) hx hb dX3_drains_110 hl (by decide) rfl (fun ls hl => ?_)
      refine lv_aload_n hx hb dX3_drains_112 rfl (lv_at hl 5 rfl) ?_
      refine r_getq B hM 4 hL.1 rfl (by decide) rfl rfl (hL.2 4 _ _ rfl).1 q1386 dX3_drains_113 ?_
      refine lv_iload hx hb dX3_drains_116 (lv_at hl 2 rfl) ?_
      refine lv_dup2_11 hx hb dX3_drains_118 rfl rfl ?_
      refine r_ild B hM 0 (hL.2 4 _ _ rfl).2 rfl (by decide) (by decide) dX3_drains_119 ?_
      refine r_topv (v := sh0 (ka 1000) c n 0) (by rw [eka_6, up2_i _ _ _ _ (by decide), eka_4, up2_i _ _ _ _ (by decide), eka_2, up2_s]) ?_
      refine lv_iload hx hb dX3_drains_120 (lv_at hl 0 rfl) ?_
      refine lv_iadd hx hb dX3_drains_122 ?_
      refine r_ist B hM 0 (hL.2 4 _ _ rfl).2 rfl (by decide) (by decide) dX3_drains_123 (fun ka_9 H locs eka_9 hM => ?_)
      have hB_9 : But [1000, 1004] ka ka_9 := But.trans hB_6 (by rw [eka_9]; exact But.up (by decide))
      refine lv_iload hx hb dX3_drains_124 (lv_at hl 3 rfl) ?_
      refine lv_iload hx hb dX3_drains_126 (lv_at hl 0 rfl) ?_
      refine lv_isub hx hb dX3_drains_128 ?_
      refine lv_topi (fun v_10 ev_10 => ?_)
      refine lv_istore (lv' := [(4, .int v_10), (7, .int z0), (6, .int v_8), (5, .int 0), (3, .int v_1), (0, .ref y0), (1, .int (nI c)), (2, .int n)]) hx hb dX3_drains_129 hl (by decide) rfl (fun ls hl => ?_)
      refine lv_aload_n hx hb dX3_drains_131 rfl (lv_at hl 5 rfl) ?_
      refine r_getq B hM 0 hL.1 rfl (by decide) rfl rfl (hL.2 0 _ _ rfl).1 q1382 dX3_drains_132 ?_
      refine lv_bipush (v := 7) hx hb dX3_drains_135 (by decide) ?_
      refine lv_bipush (v := 6) hx hb dX3_drains_137 (by decide) ?_
      refine lv_iload_n hx hb dX3_drains_139 rfl (lv_at hl 6 rfl) ?_
      refine lv_imul hx hb dX3_drains_140 ?_
      refine lv_iadd hx hb dX3_drains_141 ?_
      refine lv_iconst (v := 3) hx hb dX3_drains_142 (by decide) ?_
      refine lv_iadd hx hb dX3_drains_143 ?_
      refine lv_iload hx hb dX3_drains_144 (lv_at hl 3 rfl) ?_
      refine lv_iadd hx hb dX3_drains_146 ?_
      refine lv_dup2_11 hx hb dX3_drains_147 rfl rfl ?_
      refine r_ild B hM (7 + 6 * c + 3) (hL.2 0 _ _ rfl).2 (by simp only [nA, nMu, nL]; grind) (by omega) (by decide) dX3_drains_148 ?_
      refine r_topv (v := ka 1000 (7 + 6 * c + 3)) (by rw [eka_9, up2_a _ _ _ (by decide), eka_6, up2_a _ _ _ (by decide), eka_4, up2_a _ _ _ (by decide), eka_2, up2_a _ _ _ (by decide)]) ?_
      refine lv_aload_n hx hb dX3_drains_149 rfl (lv_at hl 5 rfl) ?_
      refine r_getq B hM 4 hL.1 rfl (by decide) rfl rfl (hL.2 4 _ _ rfl).1 q1386 dX3_drains_150 ?_
      refine lv_iload hx hb dX3_drains_153 (lv_at hl 3 rfl) ?_
      refine r_ild B hM 0 (hL.2 4 _ _ rfl).2 rfl (by decide) (by decide) dX3_drains_155 ?_
      refine r_topv (v := (sh0 (ka 1000) c n 0) + z0) (by rw [eka_9, up2_s]) ?_
      refine lv_isub hx hb dX3_drains_156 ?_
      refine r_ist B hM (7 + 6 * c + 3) (hL.2 0 _ _ rfl).2 (by simp only [nA, nMu, nL]; grind) (by omega) (by decide) dX3_drains_157 (fun ka_11 H locs eka_11 hM => ?_)
      have hB_11 : But [1000, 1004] ka ka_11 := But.trans hB_9 (by rw [eka_11]; exact But.up (by decide))
      refine lv_iinc (v := 1) (lv' := [(5, .int 1), (4, .int v_10), (7, .int z0), (6, .int v_8), (3, .int v_1), (0, .ref y0), (1, .int (nI c)), (2, .int n)]) hx hb dX3_drains_158 hl (k := 3) rfl (by decide) (by decide) rfl (fun ls hl => ?_)
      refine lv_goto (tgt := 71) hx hb dX3_drains_161 (by decide) ?_
      refine lv_iload hx hb dX3_drains_71 (lv_at hl 0 rfl) ?_
      refine lv_iconst (v := 3) hx hb dX3_drains_73 (by decide) ?_
      refine lv_icmp_ge (tgt := 164) hx hb dX3_drains_74 (by decide) (fun cZ => absurd cZ (by decide)) (fun c74 => ?_)
      refine lv_aload_n hx hb dX3_drains_77 rfl (lv_at hl 5 rfl) ?_
      refine lv_iload_n hx hb dX3_drains_78 rfl (lv_at hl 6 rfl) ?_
      refine lv_iconst (v := 3) hx hb dX3_drains_79 (by decide) ?_
      refine lv_iload hx hb dX3_drains_80 (lv_at hl 0 rfl) ?_
      refine lv_iadd hx hb dX3_drains_82 ?_
      refine W.eq (g2 := F0 m_ 83 ls (.int 4 :: [.int (nI c), .ref y0])) rfl ?_
      refine k_pe (v := ka_11 1000 (7 + 6 * c + 4)) (r_V (As := [.int (nI c), .int 4]) (rest := []) B hM hL.1 rfl rfl (ok_of hL (c := c) (w := 4) (by omega) (by omega)) cal_X3_of q1510 rfl hl.1 (Nat.le_of_ble_eq_true rfl) dX3_drains_83 ⟨Nat.le_of_ble_eq_true rfl, Nat.le_of_ble_eq_true rfl⟩ ⟨Nat.le_of_ble_eq_true rfl, Nat.le_of_ble_eq_true rfl⟩) hM (fun H locs hM => ?_)
      refine r_topv (v := ka 1000 (7 + 6 * c + 4)) (by rw [eka_11, up2_i _ _ _ _ (by omega), eka_9, up2_a _ _ _ (by decide), eka_6, up2_a _ _ _ (by decide), eka_4, up2_a _ _ _ (by decide), eka_2, up2_a _ _ _ (by decide)]) ?_
      refine lv_aload_n hx hb dX3_drains_86 rfl (lv_at hl 5 rfl) ?_
      refine r_getq B hM 4 hL.1 rfl (by decide) rfl rfl (hL.2 4 _ _ rfl).1 q1386 dX3_drains_87 ?_
      refine lv_iload hx hb dX3_drains_90 (lv_at hl 0 rfl) ?_
      refine r_ild B hM 1 (hL.2 4 _ _ rfl).2 rfl (by decide) (by decide) dX3_drains_92 ?_
      refine r_topv (v := sh0 (ka 1000) c n 1) (by rw [eka_11, up2_a _ _ _ (by decide), eka_9, up2_i _ _ _ _ (by decide), eka_6, up2_i _ _ _ _ (by decide), eka_4, up2_s]) ?_
      refine lv_isub hx hb dX3_drains_93 ?_
      refine lv_topi (fun v_12 ev_12 => ?_)
      refine lv_istore (lv' := [(6, .int v_12), (5, .int 1), (4, .int v_10), (7, .int z0), (3, .int v_1), (0, .ref y0), (1, .int (nI c)), (2, .int n)]) hx hb dX3_drains_94 hl (by decide) rfl (fun ls hl => ?_)
      refine lv_iload hx hb dX3_drains_96 (lv_at hl 2 rfl) ?_
      refine lv_iload hx hb dX3_drains_98 (lv_at hl 0 rfl) ?_
      have hlk1 : v_10 = lk0 (ka 1000) c n - mo0 (ka 1000) c n := by rw [ev_10, hlk0, hz0]
      have hlf1 : v_12 = ka 1000 (7 + 6 * c + (3 + 1)) - sh0 (ka 1000) c n 1 := ev_12
      have J1 : ∀ (z1 : Int32) (ls : Array Slot) (H : Heap) (locs : List Loc), (z1 = mo1 (ka 1000) c n) → lv_has ls 8 [(6, .int v_12), (5, .int 1), (4, .int v_10), (7, .int z0), (3, .int v_1), (0, .ref y0), (1, .int (nI c)), (2, .int n)] → Md G th rh ph ka_11 H locs → W p_ l e_ (RM 3 0 0) s_ m_ ([.ref y0, .int (nI c), .int n].toArray) below_ meth_ c_ H locs 0 0 (MQ below_ (Qv G th rh ph (fun ka' => ka' 1000 = drT (ka 1000) c n ∧ (∀ k, k < 3 → ka' 1004 k = goT (ka 1000) c n k) ∧ But [1000, 1004] ka ka')) ([.ref y0, .int (nI c), .int n].toArray) s_ 0 0 (frG G)) (F0 m_ 110 ls [.int z1]) := by
        intro z1 ls H locs hz1 hl hM
        refine lv_istore (lv' := [(7, .int z1), (6, .int v_12), (5, .int 1), (4, .int v_10), (3, .int v_1), (0, .ref y0), (1, .int (nI c)), (2, .int n)]) hx hb dX3_drains_110 hl (by decide) rfl (fun ls hl => ?_)
        refine lv_aload_n hx hb dX3_drains_112 rfl (lv_at hl 5 rfl) ?_
        refine r_getq B hM 4 hL.1 rfl (by decide) rfl rfl (hL.2 4 _ _ rfl).1 q1386 dX3_drains_113 ?_
        refine lv_iload hx hb dX3_drains_116 (lv_at hl 2 rfl) ?_
        refine lv_dup2_11 hx hb dX3_drains_118 rfl rfl ?_
        refine r_ild B hM 1 (hL.2 4 _ _ rfl).2 rfl (by decide) (by decide) dX3_drains_119 ?_
        refine r_topv (v := sh0 (ka 1000) c n 1) (by rw [eka_11, up2_a _ _ _ (by decide), eka_9, up2_i _ _ _ _ (by decide), eka_6, up2_i _ _ _ _ (by decide), eka_4, up2_s]) ?_
        refine lv_iload hx hb dX3_drains_120 (lv_at hl 0 rfl) ?_
        refine lv_iadd hx hb dX3_drains_122 ?_
        refine r_ist B hM 1 (hL.2 4 _ _ rfl).2 rfl (by decide) (by decide) dX3_drains_123 (fun ka_13 H locs eka_13 hM => ?_)
        have hB_13 : But [1000, 1004] ka ka_13 := But.trans hB_11 (by rw [eka_13]; exact But.up (by decide))
        refine lv_iload hx hb dX3_drains_124 (lv_at hl 3 rfl) ?_
        refine lv_iload hx hb dX3_drains_126 (lv_at hl 0 rfl) ?_
        refine lv_isub hx hb dX3_drains_128 ?_
        refine lv_topi (fun v_14 ev_14 => ?_)
        refine lv_istore (lv' := [(4, .int v_14), (7, .int z1), (6, .int v_12), (5, .int 1), (3, .int v_1), (0, .ref y0), (1, .int (nI c)), (2, .int n)]) hx hb dX3_drains_129 hl (by decide) rfl (fun ls hl => ?_)
        refine lv_aload_n hx hb dX3_drains_131 rfl (lv_at hl 5 rfl) ?_
        refine r_getq B hM 0 hL.1 rfl (by decide) rfl rfl (hL.2 0 _ _ rfl).1 q1382 dX3_drains_132 ?_
        refine lv_bipush (v := 7) hx hb dX3_drains_135 (by decide) ?_
        refine lv_bipush (v := 6) hx hb dX3_drains_137 (by decide) ?_
        refine lv_iload_n hx hb dX3_drains_139 rfl (lv_at hl 6 rfl) ?_
        refine lv_imul hx hb dX3_drains_140 ?_
        refine lv_iadd hx hb dX3_drains_141 ?_
        refine lv_iconst (v := 3) hx hb dX3_drains_142 (by decide) ?_
        refine lv_iadd hx hb dX3_drains_143 ?_
        refine lv_iload hx hb dX3_drains_144 (lv_at hl 3 rfl) ?_
        refine lv_iadd hx hb dX3_drains_146 ?_
        refine lv_dup2_11 hx hb dX3_drains_147 rfl rfl ?_
        refine r_ild B hM (7 + 6 * c + 4) (hL.2 0 _ _ rfl).2 (by simp only [nA, nMu, nL]; grind) (by omega) (by decide) dX3_drains_148 ?_
        refine r_topv (v := ka 1000 (7 + 6 * c + 4)) (by rw [eka_13, up2_a _ _ _ (by decide), eka_11, up2_i _ _ _ _ (by omega), eka_9, up2_a _ _ _ (by decide), eka_6, up2_a _ _ _ (by decide), eka_4, up2_a _ _ _ (by decide), eka_2, up2_a _ _ _ (by decide)]) ?_
        refine lv_aload_n hx hb dX3_drains_149 rfl (lv_at hl 5 rfl) ?_
        refine r_getq B hM 4 hL.1 rfl (by decide) rfl rfl (hL.2 4 _ _ rfl).1 q1386 dX3_drains_150 ?_
        refine lv_iload hx hb dX3_drains_153 (lv_at hl 3 rfl) ?_
        refine r_ild B hM 1 (hL.2 4 _ _ rfl).2 rfl (by decide) (by decide) dX3_drains_155 ?_
        refine r_topv (v := (sh0 (ka 1000) c n 1) + z1) (by rw [eka_13, up2_s]) ?_
        refine lv_isub hx hb dX3_drains_156 ?_
        refine r_ist B hM (7 + 6 * c + 4) (hL.2 0 _ _ rfl).2 (by simp only [nA, nMu, nL]; grind) (by omega) (by decide) dX3_drains_157 (fun ka_15 H locs eka_15 hM => ?_)
        have hB_15 : But [1000, 1004] ka ka_15 := But.trans hB_13 (by rw [eka_15]; exact But.up (by decide))
        refine lv_iinc (v := 2) (lv' := [(5, .int 2), (4, .int v_14), (7, .int z1), (6, .int v_12), (3, .int v_1), (0, .ref y0), (1, .int (nI c)), (2, .int n)]) hx hb dX3_drains_158 hl (k := 3) rfl (by decide) (by decide) rfl (fun ls hl => ?_)
        refine lv_goto (tgt := 71) hx hb dX3_drains_161 (by decide) ?_
        refine lv_iload hx hb dX3_drains_71 (lv_at hl 0 rfl) ?_
        refine lv_iconst (v := 3) hx hb dX3_drains_73 (by decide) ?_
        refine lv_icmp_ge (tgt := 164) hx hb dX3_drains_74 (by decide) (fun cZ => absurd cZ (by decide)) (fun c74 => ?_)
        refine lv_aload_n hx hb dX3_drains_77 rfl (lv_at hl 5 rfl) ?_
        refine lv_iload_n hx hb dX3_drains_78 rfl (lv_at hl 6 rfl) ?_
        refine lv_iconst (v := 3) hx hb dX3_drains_79 (by decide) ?_
        refine lv_iload hx hb dX3_drains_80 (lv_at hl 0 rfl) ?_
        refine lv_iadd hx hb dX3_drains_82 ?_
        refine W.eq (g2 := F0 m_ 83 ls (.int 5 :: [.int (nI c), .ref y0])) rfl ?_
        refine k_pe (v := ka_15 1000 (7 + 6 * c + 5)) (r_V (As := [.int (nI c), .int 5]) (rest := []) B hM hL.1 rfl rfl (ok_of hL (c := c) (w := 5) (by omega) (by omega)) cal_X3_of q1510 rfl hl.1 (Nat.le_of_ble_eq_true rfl) dX3_drains_83 ⟨Nat.le_of_ble_eq_true rfl, Nat.le_of_ble_eq_true rfl⟩ ⟨Nat.le_of_ble_eq_true rfl, Nat.le_of_ble_eq_true rfl⟩) hM (fun H locs hM => ?_)
        refine r_topv (v := ka 1000 (7 + 6 * c + 5)) (by rw [eka_15, up2_i _ _ _ _ (by omega), eka_13, up2_a _ _ _ (by decide), eka_11, up2_i _ _ _ _ (by omega), eka_9, up2_a _ _ _ (by decide), eka_6, up2_a _ _ _ (by decide), eka_4, up2_a _ _ _ (by decide), eka_2, up2_a _ _ _ (by decide)]) ?_
        refine lv_aload_n hx hb dX3_drains_86 rfl (lv_at hl 5 rfl) ?_
        refine r_getq B hM 4 hL.1 rfl (by decide) rfl rfl (hL.2 4 _ _ rfl).1 q1386 dX3_drains_87 ?_
        refine lv_iload hx hb dX3_drains_90 (lv_at hl 0 rfl) ?_
        refine r_ild B hM 2 (hL.2 4 _ _ rfl).2 rfl (by decide) (by decide) dX3_drains_92 ?_
        refine r_topv (v := sh0 (ka 1000) c n 2) (by rw [eka_15, up2_a _ _ _ (by decide), eka_13, up2_i _ _ _ _ (by decide), eka_11, up2_a _ _ _ (by decide), eka_9, up2_i _ _ _ _ (by decide), eka_6, up2_s]) ?_
        refine lv_isub hx hb dX3_drains_93 ?_
        refine lv_topi (fun v_16 ev_16 => ?_)
        refine lv_istore (lv' := [(6, .int v_16), (5, .int 2), (4, .int v_14), (7, .int z1), (3, .int v_1), (0, .ref y0), (1, .int (nI c)), (2, .int n)]) hx hb dX3_drains_94 hl (by decide) rfl (fun ls hl => ?_)
        refine lv_iload hx hb dX3_drains_96 (lv_at hl 2 rfl) ?_
        refine lv_iload hx hb dX3_drains_98 (lv_at hl 0 rfl) ?_
        have hlk2 : v_14 = lk0 (ka 1000) c n - mo0 (ka 1000) c n - mo1 (ka 1000) c n := by rw [ev_14, hlk1, hz1]
        have hlf2 : v_16 = ka 1000 (7 + 6 * c + (3 + 2)) - sh0 (ka 1000) c n 2 := ev_16
        have J2 : ∀ (z2 : Int32) (ls : Array Slot) (H : Heap) (locs : List Loc), (z2 = mo2 (ka 1000) c n) → lv_has ls 8 [(6, .int v_16), (5, .int 2), (4, .int v_14), (7, .int z1), (3, .int v_1), (0, .ref y0), (1, .int (nI c)), (2, .int n)] → Md G th rh ph ka_15 H locs → W p_ l e_ (RM 3 0 0) s_ m_ ([.ref y0, .int (nI c), .int n].toArray) below_ meth_ c_ H locs 0 0 (MQ below_ (Qv G th rh ph (fun ka' => ka' 1000 = drT (ka 1000) c n ∧ (∀ k, k < 3 → ka' 1004 k = goT (ka 1000) c n k) ∧ But [1000, 1004] ka ka')) ([.ref y0, .int (nI c), .int n].toArray) s_ 0 0 (frG G)) (F0 m_ 110 ls [.int z2]) := by
          intro z2 ls H locs hz2 hl hM
          refine lv_istore (lv' := [(7, .int z2), (6, .int v_16), (5, .int 2), (4, .int v_14), (3, .int v_1), (0, .ref y0), (1, .int (nI c)), (2, .int n)]) hx hb dX3_drains_110 hl (by decide) rfl (fun ls hl => ?_)
          refine lv_aload_n hx hb dX3_drains_112 rfl (lv_at hl 5 rfl) ?_
          refine r_getq B hM 4 hL.1 rfl (by decide) rfl rfl (hL.2 4 _ _ rfl).1 q1386 dX3_drains_113 ?_
          refine lv_iload hx hb dX3_drains_116 (lv_at hl 2 rfl) ?_
          refine lv_dup2_11 hx hb dX3_drains_118 rfl rfl ?_
          refine r_ild B hM 2 (hL.2 4 _ _ rfl).2 rfl (by decide) (by decide) dX3_drains_119 ?_
          refine r_topv (v := sh0 (ka 1000) c n 2) (by rw [eka_15, up2_a _ _ _ (by decide), eka_13, up2_i _ _ _ _ (by decide), eka_11, up2_a _ _ _ (by decide), eka_9, up2_i _ _ _ _ (by decide), eka_6, up2_s]) ?_
          refine lv_iload hx hb dX3_drains_120 (lv_at hl 0 rfl) ?_
          refine lv_iadd hx hb dX3_drains_122 ?_
          refine r_ist B hM 2 (hL.2 4 _ _ rfl).2 rfl (by decide) (by decide) dX3_drains_123 (fun ka_17 H locs eka_17 hM => ?_)
          have hB_17 : But [1000, 1004] ka ka_17 := But.trans hB_15 (by rw [eka_17]; exact But.up (by decide))
          refine lv_iload hx hb dX3_drains_124 (lv_at hl 3 rfl) ?_
          refine lv_iload hx hb dX3_drains_126 (lv_at hl 0 rfl) ?_
          refine lv_isub hx hb dX3_drains_128 ?_
          refine lv_topi (fun v_18 ev_18 => ?_)
          refine lv_istore (lv' := [(4, .int v_18), (7, .int z2), (6, .int v_16), (5, .int 2), (3, .int v_1), (0, .ref y0), (1, .int (nI c)), (2, .int n)]) hx hb dX3_drains_129 hl (by decide) rfl (fun ls hl => ?_)
          refine lv_aload_n hx hb dX3_drains_131 rfl (lv_at hl 5 rfl) ?_
          refine r_getq B hM 0 hL.1 rfl (by decide) rfl rfl (hL.2 0 _ _ rfl).1 q1382 dX3_drains_132 ?_
          refine lv_bipush (v := 7) hx hb dX3_drains_135 (by decide) ?_
          refine lv_bipush (v := 6) hx hb dX3_drains_137 (by decide) ?_
          refine lv_iload_n hx hb dX3_drains_139 rfl (lv_at hl 6 rfl) ?_
          refine lv_imul hx hb dX3_drains_140 ?_
          refine lv_iadd hx hb dX3_drains_141 ?_
          refine lv_iconst (v := 3) hx hb dX3_drains_142 (by decide) ?_
          refine lv_iadd hx hb dX3_drains_143 ?_
          refine lv_iload hx hb dX3_drains_144 (lv_at hl 3 rfl) ?_
          refine lv_iadd hx hb dX3_drains_146 ?_
          refine lv_dup2_11 hx hb dX3_drains_147 rfl rfl ?_
          refine r_ild B hM (7 + 6 * c + 5) (hL.2 0 _ _ rfl).2 (by simp only [nA, nMu, nL]; grind) (by omega) (by decide) dX3_drains_148 ?_
          refine r_topv (v := ka 1000 (7 + 6 * c + 5)) (by rw [eka_17, up2_a _ _ _ (by decide), eka_15, up2_i _ _ _ _ (by omega), eka_13, up2_a _ _ _ (by decide), eka_11, up2_i _ _ _ _ (by omega), eka_9, up2_a _ _ _ (by decide), eka_6, up2_a _ _ _ (by decide), eka_4, up2_a _ _ _ (by decide), eka_2, up2_a _ _ _ (by decide)]) ?_
          refine lv_aload_n hx hb dX3_drains_149 rfl (lv_at hl 5 rfl) ?_
          refine r_getq B hM 4 hL.1 rfl (by decide) rfl rfl (hL.2 4 _ _ rfl).1 q1386 dX3_drains_150 ?_
          refine lv_iload hx hb dX3_drains_153 (lv_at hl 3 rfl) ?_
          refine r_ild B hM 2 (hL.2 4 _ _ rfl).2 rfl (by decide) (by decide) dX3_drains_155 ?_
          refine r_topv (v := (sh0 (ka 1000) c n 2) + z2) (by rw [eka_17, up2_s]) ?_
          refine lv_isub hx hb dX3_drains_156 ?_
          refine r_ist B hM (7 + 6 * c + 5) (hL.2 0 _ _ rfl).2 (by simp only [nA, nMu, nL]; grind) (by omega) (by decide) dX3_drains_157 (fun ka_19 H locs eka_19 hM => ?_)
          have hB_19 : But [1000, 1004] ka ka_19 := But.trans hB_17 (by rw [eka_19]; exact But.up (by decide))
          refine lv_iinc (v := 3) (lv' := [(5, .int 3), (4, .int v_18), (7, .int z2), (6, .int v_16), (3, .int v_1), (0, .ref y0), (1, .int (nI c)), (2, .int n)]) hx hb dX3_drains_158 hl (k := 3) rfl (by decide) (by decide) rfl (fun ls hl => ?_)
          refine lv_goto (tgt := 71) hx hb dX3_drains_161 (by decide) ?_
          refine lv_iload hx hb dX3_drains_71 (lv_at hl 0 rfl) ?_
          refine lv_iconst (v := 3) hx hb dX3_drains_73 (by decide) ?_
          refine lv_icmp_ge (tgt := 164) hx hb dX3_drains_74 (by decide) (fun c74 => ?_) (fun cZ => absurd (by decide) cZ)
          refine r_vret B hr hM dX3_drains_164 ?_
          refine ⟨?_, ?_, hB_19⟩
          · funext i
            simp only [eka_19, eka_17, eka_15, eka_13, eka_11, eka_9, eka_6, eka_4, eka_2, up2, drT, goT, hz0, hz1, hz2]
            grind
          · intro k hk
            rcases (show k = 0 ∨ k = 1 ∨ k = 2 by omega) with rfl | rfl | rfl
            all_goals simp [eka_19, eka_17, eka_15, eka_13, eka_11, eka_9, eka_6, eka_4, eka_2, up2, goT, hz0, hz1, hz2]
        refine lv_icmp_ge (tgt := 108) hx hb dX3_drains_100 (by decide) (fun c100 => ?_) (fun c100 => ?_)
        · refine lv_iload hx hb dX3_drains_108 (lv_at hl 0 rfl) ?_
          exact J2 v_16 _ _ _ (by rw [mo2, ← hlk2, ← hlf2, minI, if_neg (i_nlt.mpr c100)]) (lv_sub hl [0, 1, 2, 3, 4, 5, 6, 7] rfl) hM
        · refine lv_iload hx hb dX3_drains_103 (lv_at hl 2 rfl) ?_
          refine lv_goto (tgt := 110) hx hb dX3_drains_105 (by decide) ?_
          exact J2 v_14 _ _ _ (by rw [mo2, ← hlk2, ← hlf2, minI, if_pos (i_nle.mp c100)]) (lv_sub hl [0, 1, 2, 3, 4, 5, 6, 7] rfl) hM
      refine lv_icmp_ge (tgt := 108) hx hb dX3_drains_100 (by decide) (fun c100 => ?_) (fun c100 => ?_)
      · refine lv_iload hx hb dX3_drains_108 (lv_at hl 0 rfl) ?_
        exact J1 v_12 _ _ _ (by rw [mo1, ← hlk1, ← hlf1, minI, if_neg (i_nlt.mpr c100)]) (lv_sub hl [0, 1, 2, 3, 4, 5, 6, 7] rfl) hM
      · refine lv_iload hx hb dX3_drains_103 (lv_at hl 2 rfl) ?_
        refine lv_goto (tgt := 110) hx hb dX3_drains_105 (by decide) ?_
        exact J1 v_10 _ _ _ (by rw [mo1, ← hlk1, ← hlf1, minI, if_pos (i_nle.mp c100)]) (lv_sub hl [0, 1, 2, 3, 4, 5, 6, 7] rfl) hM
    refine lv_icmp_ge (tgt := 108) hx hb dX3_drains_100 (by decide) (fun c100 => ?_) (fun c100 => ?_)
    · refine lv_iload hx hb dX3_drains_108 (lv_at hl 0 rfl) ?_
      exact J0 v_8 _ _ _ (by rw [mo0, ← hlk0, ← hlf0, minI, if_neg (i_nlt.mpr c100)]) (lv_sub hl [0, 1, 2, 3, 4, 5, 6] rfl) hM
    · refine lv_iload hx hb dX3_drains_103 (lv_at hl 2 rfl) ?_
      refine lv_goto (tgt := 110) hx hb dX3_drains_105 (by decide) ?_
      exact J0 v_7 _ _ _ (by rw [mo0, ← hlk0, ← hlf0, minI, if_pos (i_nle.mp c100)]) (lv_sub hl [0, 1, 2, 3, 4, 5, 6] rfl) hM
  · refine lv_iconst (v := 0) hx hb dX3_drains_28 (by decide) ?_
    refine lv_goto (tgt := 49) hx hb dX3_drains_29 (by decide) ?_
    refine r_topv (v := sh0 (ka 1000) c n 0) (by rw [sh0, if_pos (by rw [← ev_1]; exact c25)]) ?_
    refine r_ist B hM 0 (hL.2 4 _ _ rfl).2 rfl (by decide) (by decide) dX3_drains_49 (fun ka_20 H locs eka_20 hM => ?_)
    have hB_20 : But [1000, 1004] ka ka_20 := But.trans But.refl (by rw [eka_20]; exact But.up (by decide))
    refine lv_iload hx hb dX3_drains_50 (lv_at hl 1 rfl) ?_
    refine lv_aload_n hx hb dX3_drains_52 rfl (lv_at hl 3 rfl) ?_
    refine r_getq B hM 4 hL.1 rfl (by decide) rfl rfl (hL.2 4 _ _ rfl).1 q1386 dX3_drains_53 ?_
    refine lv_iload hx hb dX3_drains_56 (lv_at hl 0 rfl) ?_
    refine r_ild B hM 0 (hL.2 4 _ _ rfl).2 rfl (by decide) (by decide) dX3_drains_58 ?_
    refine r_topv (v := sh0 (ka 1000) c n 0) (by rw [eka_20, up2_s]) ?_
    refine lv_isub hx hb dX3_drains_59 ?_
    refine lv_topi (fun v_21 ev_21 => ?_)
    refine lv_istore (lv' := [(4, .int v_21), (5, .int 0), (3, .int v_1), (0, .ref y0), (1, .int (nI c)), (2, .int n)]) hx hb dX3_drains_60 hl (by decide) rfl (fun ls hl => ?_)
    refine lv_iinc (v := 1) (lv' := [(5, .int 1), (4, .int v_21), (3, .int v_1), (0, .ref y0), (1, .int (nI c)), (2, .int n)]) hx hb dX3_drains_62 hl (k := 1) rfl (by decide) (by decide) rfl (fun ls hl => ?_)
    refine lv_goto (tgt := 12) hx hb dX3_drains_65 (by decide) ?_
    refine lv_iload hx hb dX3_drains_12 (lv_at hl 0 rfl) ?_
    refine lv_iconst (v := 3) hx hb dX3_drains_14 (by decide) ?_
    refine lv_icmp_ge (tgt := 68) hx hb dX3_drains_15 (by decide) (fun cZ => absurd cZ (by decide)) (fun c15 => ?_)
    refine lv_aload_n hx hb dX3_drains_18 rfl (lv_at hl 3 rfl) ?_
    refine r_getq B hM 4 hL.1 rfl (by decide) rfl rfl (hL.2 4 _ _ rfl).1 q1386 dX3_drains_19 ?_
    refine lv_iload hx hb dX3_drains_22 (lv_at hl 0 rfl) ?_
    refine lv_iload_n hx hb dX3_drains_24 rfl (lv_at hl 2 rfl) ?_
    refine lv_if_ne (tgt := 32) hx hb dX3_drains_25 (by decide) (fun cZ => absurd c25 cZ) (fun c25 => ?_)
    refine lv_iconst (v := 0) hx hb dX3_drains_28 (by decide) ?_
    refine lv_goto (tgt := 49) hx hb dX3_drains_29 (by decide) ?_
    refine r_topv (v := sh0 (ka 1000) c n 1) (by rw [sh0, if_pos (by rw [← ev_1]; exact c25)]) ?_
    refine r_ist B hM 1 (hL.2 4 _ _ rfl).2 rfl (by decide) (by decide) dX3_drains_49 (fun ka_22 H locs eka_22 hM => ?_)
    have hB_22 : But [1000, 1004] ka ka_22 := But.trans hB_20 (by rw [eka_22]; exact But.up (by decide))
    refine lv_iload hx hb dX3_drains_50 (lv_at hl 1 rfl) ?_
    refine lv_aload_n hx hb dX3_drains_52 rfl (lv_at hl 3 rfl) ?_
    refine r_getq B hM 4 hL.1 rfl (by decide) rfl rfl (hL.2 4 _ _ rfl).1 q1386 dX3_drains_53 ?_
    refine lv_iload hx hb dX3_drains_56 (lv_at hl 0 rfl) ?_
    refine r_ild B hM 1 (hL.2 4 _ _ rfl).2 rfl (by decide) (by decide) dX3_drains_58 ?_
    refine r_topv (v := sh0 (ka 1000) c n 1) (by rw [eka_22, up2_s]) ?_
    refine lv_isub hx hb dX3_drains_59 ?_
    refine lv_topi (fun v_23 ev_23 => ?_)
    refine lv_istore (lv' := [(4, .int v_23), (5, .int 1), (3, .int v_1), (0, .ref y0), (1, .int (nI c)), (2, .int n)]) hx hb dX3_drains_60 hl (by decide) rfl (fun ls hl => ?_)
    refine lv_iinc (v := 2) (lv' := [(5, .int 2), (4, .int v_23), (3, .int v_1), (0, .ref y0), (1, .int (nI c)), (2, .int n)]) hx hb dX3_drains_62 hl (k := 1) rfl (by decide) (by decide) rfl (fun ls hl => ?_)
    refine lv_goto (tgt := 12) hx hb dX3_drains_65 (by decide) ?_
    refine lv_iload hx hb dX3_drains_12 (lv_at hl 0 rfl) ?_
    refine lv_iconst (v := 3) hx hb dX3_drains_14 (by decide) ?_
    refine lv_icmp_ge (tgt := 68) hx hb dX3_drains_15 (by decide) (fun cZ => absurd cZ (by decide)) (fun c15 => ?_)
    refine lv_aload_n hx hb dX3_drains_18 rfl (lv_at hl 3 rfl) ?_
    refine r_getq B hM 4 hL.1 rfl (by decide) rfl rfl (hL.2 4 _ _ rfl).1 q1386 dX3_drains_19 ?_
    refine lv_iload hx hb dX3_drains_22 (lv_at hl 0 rfl) ?_
    refine lv_iload_n hx hb dX3_drains_24 rfl (lv_at hl 2 rfl) ?_
    refine lv_if_ne (tgt := 32) hx hb dX3_drains_25 (by decide) (fun cZ => absurd c25 cZ) (fun c25 => ?_)
    refine lv_iconst (v := 0) hx hb dX3_drains_28 (by decide) ?_
    refine lv_goto (tgt := 49) hx hb dX3_drains_29 (by decide) ?_
    refine r_topv (v := sh0 (ka 1000) c n 2) (by rw [sh0, if_pos (by rw [← ev_1]; exact c25)]) ?_
    refine r_ist B hM 2 (hL.2 4 _ _ rfl).2 rfl (by decide) (by decide) dX3_drains_49 (fun ka_24 H locs eka_24 hM => ?_)
    have hB_24 : But [1000, 1004] ka ka_24 := But.trans hB_22 (by rw [eka_24]; exact But.up (by decide))
    refine lv_iload hx hb dX3_drains_50 (lv_at hl 1 rfl) ?_
    refine lv_aload_n hx hb dX3_drains_52 rfl (lv_at hl 3 rfl) ?_
    refine r_getq B hM 4 hL.1 rfl (by decide) rfl rfl (hL.2 4 _ _ rfl).1 q1386 dX3_drains_53 ?_
    refine lv_iload hx hb dX3_drains_56 (lv_at hl 0 rfl) ?_
    refine r_ild B hM 2 (hL.2 4 _ _ rfl).2 rfl (by decide) (by decide) dX3_drains_58 ?_
    refine r_topv (v := sh0 (ka 1000) c n 2) (by rw [eka_24, up2_s]) ?_
    refine lv_isub hx hb dX3_drains_59 ?_
    refine lv_topi (fun v_25 ev_25 => ?_)
    refine lv_istore (lv' := [(4, .int v_25), (5, .int 2), (3, .int v_1), (0, .ref y0), (1, .int (nI c)), (2, .int n)]) hx hb dX3_drains_60 hl (by decide) rfl (fun ls hl => ?_)
    refine lv_iinc (v := 3) (lv' := [(5, .int 3), (4, .int v_25), (3, .int v_1), (0, .ref y0), (1, .int (nI c)), (2, .int n)]) hx hb dX3_drains_62 hl (k := 1) rfl (by decide) (by decide) rfl (fun ls hl => ?_)
    refine lv_goto (tgt := 12) hx hb dX3_drains_65 (by decide) ?_
    refine lv_iload hx hb dX3_drains_12 (lv_at hl 0 rfl) ?_
    refine lv_iconst (v := 3) hx hb dX3_drains_14 (by decide) ?_
    refine lv_icmp_ge (tgt := 68) hx hb dX3_drains_15 (by decide) (fun c15 => ?_) (fun cZ => absurd (by decide) cZ)
    refine lv_iconst (v := 0) hx hb dX3_drains_68 (by decide) ?_
    refine lv_istore (lv' := [(5, .int 0), (4, .int v_25), (3, .int v_1), (0, .ref y0), (1, .int (nI c)), (2, .int n)]) hx hb dX3_drains_69 hl (by decide) rfl (fun ls hl => ?_)
    refine lv_iload hx hb dX3_drains_71 (lv_at hl 0 rfl) ?_
    refine lv_iconst (v := 3) hx hb dX3_drains_73 (by decide) ?_
    refine lv_icmp_ge (tgt := 164) hx hb dX3_drains_74 (by decide) (fun cZ => absurd cZ (by decide)) (fun c74 => ?_)
    refine lv_aload_n hx hb dX3_drains_77 rfl (lv_at hl 3 rfl) ?_
    refine lv_iload_n hx hb dX3_drains_78 rfl (lv_at hl 4 rfl) ?_
    refine lv_iconst (v := 3) hx hb dX3_drains_79 (by decide) ?_
    refine lv_iload hx hb dX3_drains_80 (lv_at hl 0 rfl) ?_
    refine lv_iadd hx hb dX3_drains_82 ?_
    refine W.eq (g2 := F0 m_ 83 ls (.int 3 :: [.int (nI c), .ref y0])) rfl ?_
    refine k_pe (v := ka_24 1000 (7 + 6 * c + 3)) (r_V (As := [.int (nI c), .int 3]) (rest := []) B hM hL.1 rfl rfl (ok_of hL (c := c) (w := 3) (by omega) (by omega)) cal_X3_of q1510 rfl hl.1 (Nat.le_of_ble_eq_true rfl) dX3_drains_83 ⟨Nat.le_of_ble_eq_true rfl, Nat.le_of_ble_eq_true rfl⟩ ⟨Nat.le_of_ble_eq_true rfl, Nat.le_of_ble_eq_true rfl⟩) hM (fun H locs hM => ?_)
    refine r_topv (v := ka 1000 (7 + 6 * c + 3)) (by rw [eka_24, up2_a _ _ _ (by decide), eka_22, up2_a _ _ _ (by decide), eka_20, up2_a _ _ _ (by decide)]) ?_
    refine lv_aload_n hx hb dX3_drains_86 rfl (lv_at hl 3 rfl) ?_
    refine r_getq B hM 4 hL.1 rfl (by decide) rfl rfl (hL.2 4 _ _ rfl).1 q1386 dX3_drains_87 ?_
    refine lv_iload hx hb dX3_drains_90 (lv_at hl 0 rfl) ?_
    refine r_ild B hM 0 (hL.2 4 _ _ rfl).2 rfl (by decide) (by decide) dX3_drains_92 ?_
    refine r_topv (v := sh0 (ka 1000) c n 0) (by rw [eka_24, up2_i _ _ _ _ (by decide), eka_22, up2_i _ _ _ _ (by decide), eka_20, up2_s]) ?_
    refine lv_isub hx hb dX3_drains_93 ?_
    refine lv_topi (fun v_26 ev_26 => ?_)
    refine lv_istore (lv' := [(6, .int v_26), (5, .int 0), (4, .int v_25), (3, .int v_1), (0, .ref y0), (1, .int (nI c)), (2, .int n)]) hx hb dX3_drains_94 hl (by decide) rfl (fun ls hl => ?_)
    refine lv_iload hx hb dX3_drains_96 (lv_at hl 2 rfl) ?_
    refine lv_iload hx hb dX3_drains_98 (lv_at hl 0 rfl) ?_
    have hlk0 : v_25 = lk0 (ka 1000) c n := by rw [ev_25, ev_23, ev_21]; rfl
    have hlf0 : v_26 = ka 1000 (7 + 6 * c + (3 + 0)) - sh0 (ka 1000) c n 0 := ev_26
    have J0 : ∀ (z0 : Int32) (ls : Array Slot) (H : Heap) (locs : List Loc), (z0 = mo0 (ka 1000) c n) → lv_has ls 8 [(6, .int v_26), (5, .int 0), (4, .int v_25), (3, .int v_1), (0, .ref y0), (1, .int (nI c)), (2, .int n)] → Md G th rh ph ka_24 H locs → W p_ l e_ (RM 3 0 0) s_ m_ ([.ref y0, .int (nI c), .int n].toArray) below_ meth_ c_ H locs 0 0 (MQ below_ (Qv G th rh ph (fun ka' => ka' 1000 = drT (ka 1000) c n ∧ (∀ k, k < 3 → ka' 1004 k = goT (ka 1000) c n k) ∧ But [1000, 1004] ka ka')) ([.ref y0, .int (nI c), .int n].toArray) s_ 0 0 (frG G)) (F0 m_ 110 ls [.int z0]) := by
      intro z0 ls H locs hz0 hl hM
      refine lv_istore (lv' := [(7, .int z0), (6, .int v_26), (5, .int 0), (4, .int v_25), (3, .int v_1), (0, .ref y0), (1, .int (nI c)), (2, .int n)]) hx hb dX3_drains_110 hl (by decide) rfl (fun ls hl => ?_)
      refine lv_aload_n hx hb dX3_drains_112 rfl (lv_at hl 5 rfl) ?_
      refine r_getq B hM 4 hL.1 rfl (by decide) rfl rfl (hL.2 4 _ _ rfl).1 q1386 dX3_drains_113 ?_
      refine lv_iload hx hb dX3_drains_116 (lv_at hl 2 rfl) ?_
      refine lv_dup2_11 hx hb dX3_drains_118 rfl rfl ?_
      refine r_ild B hM 0 (hL.2 4 _ _ rfl).2 rfl (by decide) (by decide) dX3_drains_119 ?_
      refine r_topv (v := sh0 (ka 1000) c n 0) (by rw [eka_24, up2_i _ _ _ _ (by decide), eka_22, up2_i _ _ _ _ (by decide), eka_20, up2_s]) ?_
      refine lv_iload hx hb dX3_drains_120 (lv_at hl 0 rfl) ?_
      refine lv_iadd hx hb dX3_drains_122 ?_
      refine r_ist B hM 0 (hL.2 4 _ _ rfl).2 rfl (by decide) (by decide) dX3_drains_123 (fun ka_27 H locs eka_27 hM => ?_)
      have hB_27 : But [1000, 1004] ka ka_27 := But.trans hB_24 (by rw [eka_27]; exact But.up (by decide))
      refine lv_iload hx hb dX3_drains_124 (lv_at hl 3 rfl) ?_
      refine lv_iload hx hb dX3_drains_126 (lv_at hl 0 rfl) ?_
      refine lv_isub hx hb dX3_drains_128 ?_
      refine lv_topi (fun v_28 ev_28 => ?_)
      refine lv_istore (lv' := [(4, .int v_28), (7, .int z0), (6, .int v_26), (5, .int 0), (3, .int v_1), (0, .ref y0), (1, .int (nI c)), (2, .int n)]) hx hb dX3_drains_129 hl (by decide) rfl (fun ls hl => ?_)
      refine lv_aload_n hx hb dX3_drains_131 rfl (lv_at hl 5 rfl) ?_
      refine r_getq B hM 0 hL.1 rfl (by decide) rfl rfl (hL.2 0 _ _ rfl).1 q1382 dX3_drains_132 ?_
      refine lv_bipush (v := 7) hx hb dX3_drains_135 (by decide) ?_
      refine lv_bipush (v := 6) hx hb dX3_drains_137 (by decide) ?_
      refine lv_iload_n hx hb dX3_drains_139 rfl (lv_at hl 6 rfl) ?_
      refine lv_imul hx hb dX3_drains_140 ?_
      refine lv_iadd hx hb dX3_drains_141 ?_
      refine lv_iconst (v := 3) hx hb dX3_drains_142 (by decide) ?_
      refine lv_iadd hx hb dX3_drains_143 ?_
      refine lv_iload hx hb dX3_drains_144 (lv_at hl 3 rfl) ?_
      refine lv_iadd hx hb dX3_drains_146 ?_
      refine lv_dup2_11 hx hb dX3_drains_147 rfl rfl ?_
      refine r_ild B hM (7 + 6 * c + 3) (hL.2 0 _ _ rfl).2 (by simp only [nA, nMu, nL]; grind) (by omega) (by decide) dX3_drains_148 ?_
      refine r_topv (v := ka 1000 (7 + 6 * c + 3)) (by rw [eka_27, up2_a _ _ _ (by decide), eka_24, up2_a _ _ _ (by decide), eka_22, up2_a _ _ _ (by decide), eka_20, up2_a _ _ _ (by decide)]) ?_
      refine lv_aload_n hx hb dX3_drains_149 rfl (lv_at hl 5 rfl) ?_
      refine r_getq B hM 4 hL.1 rfl (by decide) rfl rfl (hL.2 4 _ _ rfl).1 q1386 dX3_drains_150 ?_
      refine lv_iload hx hb dX3_drains_153 (lv_at hl 3 rfl) ?_
      refine r_ild B hM 0 (hL.2 4 _ _ rfl).2 rfl (by decide) (by decide) dX3_drains_155 ?_
      refine r_topv (v := (sh0 (ka 1000) c n 0) + z0) (by rw [eka_27, up2_s]) ?_
      refine lv_isub hx hb dX3_drains_156 ?_
      refine r_ist B hM (7 + 6 * c + 3) (hL.2 0 _ _ rfl).2 (by simp only [nA, nMu, nL]; grind) (by omega) (by decide) dX3_drains_157 (fun ka_29 H locs eka_29 hM => ?_)
      have hB_29 : But [1000, 1004] ka ka_29 := But.trans hB_27 (by rw [eka_29]; exact But.up (by decide))
      refine lv_iinc (v := 1) (lv' := [(5, .int 1), (4, .int v_28), (7, .int z0), (6, .int v_26), (3, .int v_1), (0, .ref y0), (1, .int (nI c)), (2, .int n)]) hx hb dX3_drains_158 hl (k := 3) rfl (by decide) (by decide) rfl (fun ls hl => ?_)
      refine lv_goto (tgt := 71) hx hb dX3_drains_161 (by decide) ?_
      refine lv_iload hx hb dX3_drains_71 (lv_at hl 0 rfl) ?_
      refine lv_iconst (v := 3) hx hb dX3_drains_73 (by decide) ?_
      refine lv_icmp_ge (tgt := 164) hx hb dX3_drains_74 (by decide) (fun cZ => absurd cZ (by decide)) (fun c74 => ?_)
      refine lv_aload_n hx hb dX3_drains_77 rfl (lv_at hl 5 rfl) ?_
      refine lv_iload_n hx hb dX3_drains_78 rfl (lv_at hl 6 rfl) ?_
      refine lv_iconst (v := 3) hx hb dX3_drains_79 (by decide) ?_
      refine lv_iload hx hb dX3_drains_80 (lv_at hl 0 rfl) ?_
      refine lv_iadd hx hb dX3_drains_82 ?_
      refine W.eq (g2 := F0 m_ 83 ls (.int 4 :: [.int (nI c), .ref y0])) rfl ?_
      refine k_pe (v := ka_29 1000 (7 + 6 * c + 4)) (r_V (As := [.int (nI c), .int 4]) (rest := []) B hM hL.1 rfl rfl (ok_of hL (c := c) (w := 4) (by omega) (by omega)) cal_X3_of q1510 rfl hl.1 (Nat.le_of_ble_eq_true rfl) dX3_drains_83 ⟨Nat.le_of_ble_eq_true rfl, Nat.le_of_ble_eq_true rfl⟩ ⟨Nat.le_of_ble_eq_true rfl, Nat.le_of_ble_eq_true rfl⟩) hM (fun H locs hM => ?_)
      refine r_topv (v := ka 1000 (7 + 6 * c + 4)) (by rw [eka_29, up2_i _ _ _ _ (by omega), eka_27, up2_a _ _ _ (by decide), eka_24, up2_a _ _ _ (by decide), eka_22, up2_a _ _ _ (by decide), eka_20, up2_a _ _ _ (by decide)]) ?_
      refine lv_aload_n hx hb dX3_drains_86 rfl (lv_at hl 5 rfl) ?_
      refine r_getq B hM 4 hL.1 rfl (by decide) rfl rfl (hL.2 4 _ _ rfl).1 q1386 dX3_drains_87 ?_
      refine lv_iload hx hb dX3_drains_90 (lv_at hl 0 rfl) ?_
      refine r_ild B hM 1 (hL.2 4 _ _ rfl).2 rfl (by decide) (by decide) dX3_drains_92 ?_
      refine r_topv (v := sh0 (ka 1000) c n 1) (by rw [eka_29, up2_a _ _ _ (by decide), eka_27, up2_i _ _ _ _ (by decide), eka_24, up2_i _ _ _ _ (by decide), eka_22, up2_s]) ?_
      refine lv_isub hx hb dX3_drains_93 ?_
      refine lv_topi (fun v_30 ev_30 => ?_)
      refine lv_istore (lv' := [(6, .int v_30), (5, .int 1), (4, .int v_28), (7, .int z0), (3, .int v_1), (0, .ref y0), (1, .int (nI c)), (2, .int n)]) hx hb dX3_drains_94 hl (by decide) rfl (fun ls hl => ?_)
      refine lv_iload hx hb dX3_drains_96 (lv_at hl 2 rfl) ?_
      refine lv_iload hx hb dX3_drains_98 (lv_at hl 0 rfl) ?_
      have hlk1 : v_28 = lk0 (ka 1000) c n - mo0 (ka 1000) c n := by rw [ev_28, hlk0, hz0]
      have hlf1 : v_30 = ka 1000 (7 + 6 * c + (3 + 1)) - sh0 (ka 1000) c n 1 := ev_30
      have J1 : ∀ (z1 : Int32) (ls : Array Slot) (H : Heap) (locs : List Loc), (z1 = mo1 (ka 1000) c n) → lv_has ls 8 [(6, .int v_30), (5, .int 1), (4, .int v_28), (7, .int z0), (3, .int v_1), (0, .ref y0), (1, .int (nI c)), (2, .int n)] → Md G th rh ph ka_29 H locs → W p_ l e_ (RM 3 0 0) s_ m_ ([.ref y0, .int (nI c), .int n].toArray) below_ meth_ c_ H locs 0 0 (MQ below_ (Qv G th rh ph (fun ka' => ka' 1000 = drT (ka 1000) c n ∧ (∀ k, k < 3 → ka' 1004 k = goT (ka 1000) c n k) ∧ But [1000, 1004] ka ka')) ([.ref y0, .int (nI c), .int n].toArray) s_ 0 0 (frG G)) (F0 m_ 110 ls [.int z1]) := by
        intro z1 ls H locs hz1 hl hM
        refine lv_istore (lv' := [(7, .int z1), (6, .int v_30), (5, .int 1), (4, .int v_28), (3, .int v_1), (0, .ref y0), (1, .int (nI c)), (2, .int n)]) hx hb dX3_drains_110 hl (by decide) rfl (fun ls hl => ?_)
        refine lv_aload_n hx hb dX3_drains_112 rfl (lv_at hl 5 rfl) ?_
        refine r_getq B hM 4 hL.1 rfl (by decide) rfl rfl (hL.2 4 _ _ rfl).1 q1386 dX3_drains_113 ?_
        refine lv_iload hx hb dX3_drains_116 (lv_at hl 2 rfl) ?_
        refine lv_dup2_11 hx hb dX3_drains_118 rfl rfl ?_
        refine r_ild B hM 1 (hL.2 4 _ _ rfl).2 rfl (by decide) (by decide) dX3_drains_119 ?_
        refine r_topv (v := sh0 (ka 1000) c n 1) (by rw [eka_29, up2_a _ _ _ (by decide), eka_27, up2_i _ _ _ _ (by decide), eka_24, up2_i _ _ _ _ (by decide), eka_22, up2_s]) ?_
        refine lv_iload hx hb dX3_drains_120 (lv_at hl 0 rfl) ?_
        refine lv_iadd hx hb dX3_drains_122 ?_
        refine r_ist B hM 1 (hL.2 4 _ _ rfl).2 rfl (by decide) (by decide) dX3_drains_123 (fun ka_31 H locs eka_31 hM => ?_)
        have hB_31 : But [1000, 1004] ka ka_31 := But.trans hB_29 (by rw [eka_31]; exact But.up (by decide))
        refine lv_iload hx hb dX3_drains_124 (lv_at hl 3 rfl) ?_
        refine lv_iload hx hb dX3_drains_126 (lv_at hl 0 rfl) ?_
        refine lv_isub hx hb dX3_drains_128 ?_
        refine lv_topi (fun v_32 ev_32 => ?_)
        refine lv_istore (lv' := [(4, .int v_32), (7, .int z1), (6, .int v_30), (5, .int 1), (3, .int v_1), (0, .ref y0), (1, .int (nI c)), (2, .int n)]) hx hb dX3_drains_129 hl (by decide) rfl (fun ls hl => ?_)
        refine lv_aload_n hx hb dX3_drains_131 rfl (lv_at hl 5 rfl) ?_
        refine r_getq B hM 0 hL.1 rfl (by decide) rfl rfl (hL.2 0 _ _ rfl).1 q1382 dX3_drains_132 ?_
        refine lv_bipush (v := 7) hx hb dX3_drains_135 (by decide) ?_
        refine lv_bipush (v := 6) hx hb dX3_drains_137 (by decide) ?_
        refine lv_iload_n hx hb dX3_drains_139 rfl (lv_at hl 6 rfl) ?_
        refine lv_imul hx hb dX3_drains_140 ?_
        refine lv_iadd hx hb dX3_drains_141 ?_
        refine lv_iconst (v := 3) hx hb dX3_drains_142 (by decide) ?_
        refine lv_iadd hx hb dX3_drains_143 ?_
        refine lv_iload hx hb dX3_drains_144 (lv_at hl 3 rfl) ?_
        refine lv_iadd hx hb dX3_drains_146 ?_
        refine lv_dup2_11 hx hb dX3_drains_147 rfl rfl ?_
        refine r_ild B hM (7 + 6 * c + 4) (hL.2 0 _ _ rfl).2 (by simp only [nA, nMu, nL]; grind) (by omega) (by decide) dX3_drains_148 ?_
        refine r_topv (v := ka 1000 (7 + 6 * c + 4)) (by rw [eka_31, up2_a _ _ _ (by decide), eka_29, up2_i _ _ _ _ (by omega), eka_27, up2_a _ _ _ (by decide), eka_24, up2_a _ _ _ (by decide), eka_22, up2_a _ _ _ (by decide), eka_20, up2_a _ _ _ (by decide)]) ?_
        refine lv_aload_n hx hb dX3_drains_149 rfl (lv_at hl 5 rfl) ?_
        refine r_getq B hM 4 hL.1 rfl (by decide) rfl rfl (hL.2 4 _ _ rfl).1 q1386 dX3_drains_150 ?_
        refine lv_iload hx hb dX3_drains_153 (lv_at hl 3 rfl) ?_
        refine r_ild B hM 1 (hL.2 4 _ _ rfl).2 rfl (by decide) (by decide) dX3_drains_155 ?_
        refine r_topv (v := (sh0 (ka 1000) c n 1) + z1) (by rw [eka_31, up2_s]) ?_
        refine lv_isub hx hb dX3_drains_156 ?_
        refine r_ist B hM (7 + 6 * c + 4) (hL.2 0 _ _ rfl).2 (by simp only [nA, nMu, nL]; grind) (by omega) (by decide) dX3_drains_157 (fun ka_33 H locs eka_33 hM => ?_)
        have hB_33 : But [1000, 1004] ka ka_33 := But.trans hB_31 (by rw [eka_33]; exact But.up (by decide))
        refine lv_iinc (v := 2) (lv' := [(5, .int 2), (4, .int v_32), (7, .int z1), (6, .int v_30), (3, .int v_1), (0, .ref y0), (1, .int (nI c)), (2, .int n)]) hx hb dX3_drains_158 hl (k := 3) rfl (by decide) (by decide) rfl (fun ls hl => ?_)
        refine lv_goto (tgt := 71) hx hb dX3_drains_161 (by decide) ?_
        refine lv_iload hx hb dX3_drains_71 (lv_at hl 0 rfl) ?_
        refine lv_iconst (v := 3) hx hb dX3_drains_73 (by decide) ?_
        refine lv_icmp_ge (tgt := 164) hx hb dX3_drains_74 (by decide) (fun cZ => absurd cZ (by decide)) (fun c74 => ?_)
        refine lv_aload_n hx hb dX3_drains_77 rfl (lv_at hl 5 rfl) ?_
        refine lv_iload_n hx hb dX3_drains_78 rfl (lv_at hl 6 rfl) ?_
        refine lv_iconst (v := 3) hx hb dX3_drains_79 (by decide) ?_
        refine lv_iload hx hb dX3_drains_80 (lv_at hl 0 rfl) ?_
        refine lv_iadd hx hb dX3_drains_82 ?_
        refine W.eq (g2 := F0 m_ 83 ls (.int 5 :: [.int (nI c), .ref y0])) rfl ?_
        refine k_pe (v := ka_33 1000 (7 + 6 * c + 5)) (r_V (As := [.int (nI c), .int 5]) (rest := []) B hM hL.1 rfl rfl (ok_of hL (c := c) (w := 5) (by omega) (by omega)) cal_X3_of q1510 rfl hl.1 (Nat.le_of_ble_eq_true rfl) dX3_drains_83 ⟨Nat.le_of_ble_eq_true rfl, Nat.le_of_ble_eq_true rfl⟩ ⟨Nat.le_of_ble_eq_true rfl, Nat.le_of_ble_eq_true rfl⟩) hM (fun H locs hM => ?_)
        refine r_topv (v := ka 1000 (7 + 6 * c + 5)) (by rw [eka_33, up2_i _ _ _ _ (by omega), eka_31, up2_a _ _ _ (by decide), eka_29, up2_i _ _ _ _ (by omega), eka_27, up2_a _ _ _ (by decide), eka_24, up2_a _ _ _ (by decide), eka_22, up2_a _ _ _ (by decide), eka_20, up2_a _ _ _ (by decide)]) ?_
        refine lv_aload_n hx hb dX3_drains_86 rfl (lv_at hl 5 rfl) ?_
        refine r_getq B hM 4 hL.1 rfl (by decide) rfl rfl (hL.2 4 _ _ rfl).1 q1386 dX3_drains_87 ?_
        refine lv_iload hx hb dX3_drains_90 (lv_at hl 0 rfl) ?_
        refine r_ild B hM 2 (hL.2 4 _ _ rfl).2 rfl (by decide) (by decide) dX3_drains_92 ?_
        refine r_topv (v := sh0 (ka 1000) c n 2) (by rw [eka_33, up2_a _ _ _ (by decide), eka_31, up2_i _ _ _ _ (by decide), eka_29, up2_a _ _ _ (by decide), eka_27, up2_i _ _ _ _ (by decide), eka_24, up2_s]) ?_
        refine lv_isub hx hb dX3_drains_93 ?_
        refine lv_topi (fun v_34 ev_34 => ?_)
        refine lv_istore (lv' := [(6, .int v_34), (5, .int 2), (4, .int v_32), (7, .int z1), (3, .int v_1), (0, .ref y0), (1, .int (nI c)), (2, .int n)]) hx hb dX3_drains_94 hl (by decide) rfl (fun ls hl => ?_)
        refine lv_iload hx hb dX3_drains_96 (lv_at hl 2 rfl) ?_
        refine lv_iload hx hb dX3_drains_98 (lv_at hl 0 rfl) ?_
        have hlk2 : v_32 = lk0 (ka 1000) c n - mo0 (ka 1000) c n - mo1 (ka 1000) c n := by rw [ev_32, hlk1, hz1]
        have hlf2 : v_34 = ka 1000 (7 + 6 * c + (3 + 2)) - sh0 (ka 1000) c n 2 := ev_34
        have J2 : ∀ (z2 : Int32) (ls : Array Slot) (H : Heap) (locs : List Loc), (z2 = mo2 (ka 1000) c n) → lv_has ls 8 [(6, .int v_34), (5, .int 2), (4, .int v_32), (7, .int z1), (3, .int v_1), (0, .ref y0), (1, .int (nI c)), (2, .int n)] → Md G th rh ph ka_33 H locs → W p_ l e_ (RM 3 0 0) s_ m_ ([.ref y0, .int (nI c), .int n].toArray) below_ meth_ c_ H locs 0 0 (MQ below_ (Qv G th rh ph (fun ka' => ka' 1000 = drT (ka 1000) c n ∧ (∀ k, k < 3 → ka' 1004 k = goT (ka 1000) c n k) ∧ But [1000, 1004] ka ka')) ([.ref y0, .int (nI c), .int n].toArray) s_ 0 0 (frG G)) (F0 m_ 110 ls [.int z2]) := by
          intro z2 ls H locs hz2 hl hM
          refine lv_istore (lv' := [(7, .int z2), (6, .int v_34), (5, .int 2), (4, .int v_32), (3, .int v_1), (0, .ref y0), (1, .int (nI c)), (2, .int n)]) hx hb dX3_drains_110 hl (by decide) rfl (fun ls hl => ?_)
          refine lv_aload_n hx hb dX3_drains_112 rfl (lv_at hl 5 rfl) ?_
          refine r_getq B hM 4 hL.1 rfl (by decide) rfl rfl (hL.2 4 _ _ rfl).1 q1386 dX3_drains_113 ?_
          refine lv_iload hx hb dX3_drains_116 (lv_at hl 2 rfl) ?_
          refine lv_dup2_11 hx hb dX3_drains_118 rfl rfl ?_
          refine r_ild B hM 2 (hL.2 4 _ _ rfl).2 rfl (by decide) (by decide) dX3_drains_119 ?_
          refine r_topv (v := sh0 (ka 1000) c n 2) (by rw [eka_33, up2_a _ _ _ (by decide), eka_31, up2_i _ _ _ _ (by decide), eka_29, up2_a _ _ _ (by decide), eka_27, up2_i _ _ _ _ (by decide), eka_24, up2_s]) ?_
          refine lv_iload hx hb dX3_drains_120 (lv_at hl 0 rfl) ?_
          refine lv_iadd hx hb dX3_drains_122 ?_
          refine r_ist B hM 2 (hL.2 4 _ _ rfl).2 rfl (by decide) (by decide) dX3_drains_123 (fun ka_35 H locs eka_35 hM => ?_)
          have hB_35 : But [1000, 1004] ka ka_35 := But.trans hB_33 (by rw [eka_35]; exact But.up (by decide))
          refine lv_iload hx hb dX3_drains_124 (lv_at hl 3 rfl) ?_
          refine lv_iload hx hb dX3_drains_126 (lv_at hl 0 rfl) ?_
          refine lv_isub hx hb dX3_drains_128 ?_
          refine lv_topi (fun v_36 ev_36 => ?_)
          refine lv_istore (lv' := [(4, .int v_36), (7, .int z2), (6, .int v_34), (5, .int 2), (3, .int v_1), (0, .ref y0), (1, .int (nI c)), (2, .int n)]) hx hb dX3_drains_129 hl (by decide) rfl (fun ls hl => ?_)
          refine lv_aload_n hx hb dX3_drains_131 rfl (lv_at hl 5 rfl) ?_
          refine r_getq B hM 0 hL.1 rfl (by decide) rfl rfl (hL.2 0 _ _ rfl).1 q1382 dX3_drains_132 ?_
          refine lv_bipush (v := 7) hx hb dX3_drains_135 (by decide) ?_
          refine lv_bipush (v := 6) hx hb dX3_drains_137 (by decide) ?_
          refine lv_iload_n hx hb dX3_drains_139 rfl (lv_at hl 6 rfl) ?_
          refine lv_imul hx hb dX3_drains_140 ?_
          refine lv_iadd hx hb dX3_drains_141 ?_
          refine lv_iconst (v := 3) hx hb dX3_drains_142 (by decide) ?_
          refine lv_iadd hx hb dX3_drains_143 ?_
          refine lv_iload hx hb dX3_drains_144 (lv_at hl 3 rfl) ?_
          refine lv_iadd hx hb dX3_drains_146 ?_
          refine lv_dup2_11 hx hb dX3_drains_147 rfl rfl ?_
          refine r_ild B hM (7 + 6 * c + 5) (hL.2 0 _ _ rfl).2 (by simp only [nA, nMu, nL]; grind) (by omega) (by decide) dX3_drains_148 ?_
          refine r_topv (v := ka 1000 (7 + 6 * c + 5)) (by rw [eka_35, up2_a _ _ _ (by decide), eka_33, up2_i _ _ _ _ (by omega), eka_31, up2_a _ _ _ (by decide), eka_29, up2_i _ _ _ _ (by omega), eka_27, up2_a _ _ _ (by decide), eka_24, up2_a _ _ _ (by decide), eka_22, up2_a _ _ _ (by decide), eka_20, up2_a _ _ _ (by decide)]) ?_
          refine lv_aload_n hx hb dX3_drains_149 rfl (lv_at hl 5 rfl) ?_
          refine r_getq B hM 4 hL.1 rfl (by decide) rfl rfl (hL.2 4 _ _ rfl).1 q1386 dX3_drains_150 ?_
          refine lv_iload hx hb dX3_drains_153 (lv_at hl 3 rfl) ?_
          refine r_ild B hM 2 (hL.2 4 _ _ rfl).2 rfl (by decide) (by decide) dX3_drains_155 ?_
          refine r_topv (v := (sh0 (ka 1000) c n 2) + z2) (by rw [eka_35, up2_s]) ?_
          refine lv_isub hx hb dX3_drains_156 ?_
          refine r_ist B hM (7 + 6 * c + 5) (hL.2 0 _ _ rfl).2 (by simp only [nA, nMu, nL]; grind) (by omega) (by decide) dX3_drains_157 (fun ka_37 H locs eka_37 hM => ?_)
          have hB_37 : But [1000, 1004] ka ka_37 := But.trans hB_35 (by rw [eka_37]; exact But.up (by decide))
          refine lv_iinc (v := 3) (lv' := [(5, .int 3), (4, .int v_36), (7, .int z2), (6, .int v_34), (3, .int v_1), (0, .ref y0), (1, .int (nI c)), (2, .int n)]) hx hb dX3_drains_158 hl (k := 3) rfl (by decide) (by decide) rfl (fun ls hl => ?_)
          refine lv_goto (tgt := 71) hx hb dX3_drains_161 (by decide) ?_
          refine lv_iload hx hb dX3_drains_71 (lv_at hl 0 rfl) ?_
          refine lv_iconst (v := 3) hx hb dX3_drains_73 (by decide) ?_
          refine lv_icmp_ge (tgt := 164) hx hb dX3_drains_74 (by decide) (fun c74 => ?_) (fun cZ => absurd (by decide) cZ)
          refine r_vret B hr hM dX3_drains_164 ?_
          refine ⟨?_, ?_, hB_37⟩
          · funext i
            simp only [eka_37, eka_35, eka_33, eka_31, eka_29, eka_27, eka_24, eka_22, eka_20, up2, drT, goT, hz0, hz1, hz2]
            grind
          · intro k hk
            rcases (show k = 0 ∨ k = 1 ∨ k = 2 by omega) with rfl | rfl | rfl
            all_goals simp [eka_37, eka_35, eka_33, eka_31, eka_29, eka_27, eka_24, eka_22, eka_20, up2, goT, hz0, hz1, hz2]
        refine lv_icmp_ge (tgt := 108) hx hb dX3_drains_100 (by decide) (fun c100 => ?_) (fun c100 => ?_)
        · refine lv_iload hx hb dX3_drains_108 (lv_at hl 0 rfl) ?_
          exact J2 v_34 _ _ _ (by rw [mo2, ← hlk2, ← hlf2, minI, if_neg (i_nlt.mpr c100)]) (lv_sub hl [0, 1, 2, 3, 4, 5, 6, 7] rfl) hM
        · refine lv_iload hx hb dX3_drains_103 (lv_at hl 2 rfl) ?_
          refine lv_goto (tgt := 110) hx hb dX3_drains_105 (by decide) ?_
          exact J2 v_32 _ _ _ (by rw [mo2, ← hlk2, ← hlf2, minI, if_pos (i_nle.mp c100)]) (lv_sub hl [0, 1, 2, 3, 4, 5, 6, 7] rfl) hM
      refine lv_icmp_ge (tgt := 108) hx hb dX3_drains_100 (by decide) (fun c100 => ?_) (fun c100 => ?_)
      · refine lv_iload hx hb dX3_drains_108 (lv_at hl 0 rfl) ?_
        exact J1 v_30 _ _ _ (by rw [mo1, ← hlk1, ← hlf1, minI, if_neg (i_nlt.mpr c100)]) (lv_sub hl [0, 1, 2, 3, 4, 5, 6, 7] rfl) hM
      · refine lv_iload hx hb dX3_drains_103 (lv_at hl 2 rfl) ?_
        refine lv_goto (tgt := 110) hx hb dX3_drains_105 (by decide) ?_
        exact J1 v_28 _ _ _ (by rw [mo1, ← hlk1, ← hlf1, minI, if_pos (i_nle.mp c100)]) (lv_sub hl [0, 1, 2, 3, 4, 5, 6, 7] rfl) hM
    refine lv_icmp_ge (tgt := 108) hx hb dX3_drains_100 (by decide) (fun c100 => ?_) (fun c100 => ?_)
    · refine lv_iload hx hb dX3_drains_108 (lv_at hl 0 rfl) ?_
      exact J0 v_26 _ _ _ (by rw [mo0, ← hlk0, ← hlf0, minI, if_neg (i_nlt.mpr c100)]) (lv_sub hl [0, 1, 2, 3, 4, 5, 6] rfl) hM
    · refine lv_iload hx hb dX3_drains_103 (lv_at hl 2 rfl) ?_
      refine lv_goto (tgt := 110) hx hb dX3_drains_105 (by decide) ?_
      exact J0 v_25 _ _ _ (by rw [mo0, ← hlk0, ← hlf0, minI, if_pos (i_nle.mp c100)]) (lv_sub hl [0, 1, 2, 3, 4, 5, 6] rfl) hM
end
