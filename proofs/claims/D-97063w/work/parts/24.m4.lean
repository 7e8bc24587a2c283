/-! the model: how high, how much runs -/
set_option maxRecDepth 100000
section
variable {l : Launch} {G : GG} {th : Th} {rh : Rh} {ph : Ph} {ka : Ka} {y0 : Nat} {ay : Nat → Nat}
set_option maxHeartbeats 4000000 in
theorem ok_highOf (hL : LayM th rh y0 ay) (hR : Rok (ka 1000)) {c : Nat} (hc : c < 8) : Met l yX3_highOf (ws_ yX3_highOf cX3_highOf 5 (some .int)) (RM 3 0 0) (Pc_ G [.ref y0, .int (nI c)] th rh ph ka) (Qi G th rh ph (fun r ka' => r = highT (ka 1000) c ∧ But [1023, 1024] ka ka')) 0 0 (frG G) := by
  refine m_of (by decide) (Nat.le_of_ble_eq_true rfl) ?_
  intro p_ e_ s_ m_ below_ meth_ c_ B hr hnm ls hl hM
  have hx := B.1
  have hb := B.2.1
  have hM := hM
  refine lv_aload_n hx hb dX3_highOf_0 rfl (lv_at hl 0 rfl) ?_
  refine lv_iload_n hx hb dX3_highOf_1 rfl (lv_at hl 1 rfl) ?_
  refine k_pe (v := fullT (ka 1000) c) (r_V (As := [.int (nI c)]) (rest := []) B hM hL.1 rfl rfl (ok_fullOf hL (c := c) (by omega)) cal_X3_fullOf q1514 rfl hl.1 (Nat.le_of_ble_eq_true rfl) dX3_highOf_2 ⟨Nat.le_of_ble_eq_true rfl, Nat.le_of_ble_eq_true rfl⟩ ⟨Nat.le_of_ble_eq_true rfl, Nat.le_of_ble_eq_true rfl⟩) hM (fun H locs hM => ?_)
  refine lv_topi (fun v_1 ev_1 => ?_)
  refine lv_istore_n (lv' := [(2, .int v_1), (0, .ref y0), (1, .int (nI c))]) hx hb dX3_highOf_5 rfl hl (by decide) rfl (fun ls hl => ?_)
  refine lv_aload_n hx hb dX3_highOf_6 rfl (lv_at hl 1 rfl) ?_
  refine lv_iconst (v := 0) hx hb dX3_highOf_7 (by decide) ?_
  refine k_pe (v := opI (cntT (ka 1000) 0 (nX (ka 1000)))) (r_V (As := [.int 0]) (rest := []) B hM hL.1 rfl rfl (ok_counts hL hR 0) cal_X3_counts q1522 rfl hl.1 (Nat.le_of_ble_eq_true rfl) dX3_highOf_8 ⟨Nat.le_of_ble_eq_true rfl, Nat.le_of_ble_eq_true rfl⟩ ⟨Nat.le_of_ble_eq_true rfl, Nat.le_of_ble_eq_true rfl⟩) hM (fun H locs hM => ?_)
  refine lv_topi (fun v_2 ev_2 => ?_)
  refine lv_istore_n (lv' := [(3, .int v_2), (2, .int v_1), (0, .ref y0), (1, .int (nI c))]) hx hb dX3_highOf_11 rfl hl (by decide) rfl (fun ls hl => ?_)
  refine lv_aload_n hx hb dX3_highOf_12 rfl (lv_at hl 2 rfl) ?_
  refine r_getq B hM 24 hL.1 rfl (by decide) rfl rfl (hL.2 24 _ _ rfl).1 q1406 dX3_highOf_13 ?_
  refine lv_iconst (v := 0) hx hb dX3_highOf_16 (by decide) ?_
  refine lv_iload_n hx hb dX3_highOf_17 rfl (lv_at hl 1 rfl) ?_
  refine r_ist B hM 0 (hL.2 24 _ _ rfl).2 rfl (by decide) (by decide) dX3_highOf_18 (fun ka_3 H locs eka_3 hM => ?_)
  have hB_3 : But [1023, 1024] ka ka_3 := But.trans But.refl (by rw [eka_3]; exact But.up (by decide))
  refine lv_aload_n hx hb dX3_highOf_19 rfl (lv_at hl 2 rfl) ?_
  refine r_getq B hM 24 hL.1 rfl (by decide) rfl rfl (hL.2 24 _ _ rfl).1 q1406 dX3_highOf_20 ?_
  refine lv_iconst (v := 1) hx hb dX3_highOf_23 (by decide) ?_
  refine lv_aload_n hx hb dX3_highOf_24 rfl (lv_at hl 2 rfl) ?_
  refine lv_iload_n hx hb dX3_highOf_25 rfl (lv_at hl 3 rfl) ?_
  refine lv_iconst (v := 2) hx hb dX3_highOf_26 (by decide) ?_
  refine k_pe (v := ka_3 1000 (7 + 6 * c + 2)) (r_V (As := [.int (nI c), .int 2]) (rest := [.int 1, .ref (ay 24)]) B hM hL.1 rfl rfl (ok_of hL (c := c) (w := 2) (by omega) (by omega)) cal_X3_of q1510 rfl hl.1 (Nat.le_of_ble_eq_true rfl) dX3_highOf_27 ⟨Nat.le_of_ble_eq_true rfl, Nat.le_of_ble_eq_true rfl⟩ ⟨Nat.le_of_ble_eq_true rfl, Nat.le_of_ble_eq_true rfl⟩) hM (fun H locs hM => ?_)
  refine r_topv (v := ka 1000 (7 + 6 * c + 2)) (by rw [(hB_3 1000 (by decide))]) ?_
  refine r_ist B hM 1 (hL.2 24 _ _ rfl).2 rfl (by decide) (by decide) dX3_highOf_30 (fun ka_4 H locs eka_4 hM => ?_)
  have hB_4 : But [1023, 1024] ka ka_4 := But.trans hB_3 (by rw [eka_4]; exact But.up (by decide))
  refine lv_aload_n hx hb dX3_highOf_31 rfl (lv_at hl 2 rfl) ?_
  refine r_getq B hM 24 hL.1 rfl (by decide) rfl rfl (hL.2 24 _ _ rfl).1 q1406 dX3_highOf_32 ?_
  refine lv_iconst (v := 2) hx hb dX3_highOf_35 (by decide) ?_
  refine lv_aload_n hx hb dX3_highOf_36 rfl (lv_at hl 2 rfl) ?_
  refine lv_iload_n hx hb dX3_highOf_37 rfl (lv_at hl 3 rfl) ?_
  refine lv_iconst (v := 3) hx hb dX3_highOf_38 (by decide) ?_
  refine k_pe (v := ka_4 1000 (7 + 6 * c + 3)) (r_V (As := [.int (nI c), .int 3]) (rest := [.int 2, .ref (ay 24)]) B hM hL.1 rfl rfl (ok_of hL (c := c) (w := 3) (by omega) (by omega)) cal_X3_of q1510 rfl hl.1 (Nat.le_of_ble_eq_true rfl) dX3_highOf_39 ⟨Nat.le_of_ble_eq_true rfl, Nat.le_of_ble_eq_true rfl⟩ ⟨Nat.le_of_ble_eq_true rfl, Nat.le_of_ble_eq_true rfl⟩) hM (fun H locs hM => ?_)
  refine r_topv (v := ka 1000 (7 + 6 * c + 3)) (by rw [(hB_4 1000 (by decide))]) ?_
  refine r_ist B hM 2 (hL.2 24 _ _ rfl).2 rfl (by decide) (by decide) dX3_highOf_42 (fun ka_5 H locs eka_5 hM => ?_)
  have hB_5 : But [1023, 1024] ka ka_5 := But.trans hB_4 (by rw [eka_5]; exact But.up (by decide))
  refine lv_iload_n hx hb dX3_highOf_43 rfl (lv_at hl 0 rfl) ?_
  refine lv_if_ge (tgt := 61) hx hb dX3_highOf_44 (by decide) (fun c44 => ?_) (fun c44 => ?_)
  · obtain ⟨x, hcx⟩ := opI_pos (by rw [← ev_2]; exact c44)
    have hvx : v_2 = nI x := by rw [ev_2, hcx]; rfl
    obtain ⟨hx14, hlen, hmany, hokc⟩ := hR.txt (key := 0) hcx (by decide)
    have hfa : ∀ i, i < 3 → ka_5 1024 i = facH (ka 1000) c i := by
      intro i hi
      rcases (show i = 0 ∨ i = 1 ∨ i = 2 by omega) with rfl | rfl | rfl <;> simp [eka_3, eka_4, eka_5, up2, facH, ev_1]
    refine lv_aload_n hx hb dX3_highOf_61 rfl (lv_at hl 2 rfl) ?_
    refine lv_iload_n hx hb dX3_highOf_62 rfl (lv_at hl 0 rfl) ?_
    refine r_topv (v := nI x) hvx ?_
    refine k_i (r_V (As := [.int (nI x)]) (rest := []) B hM hL.1 rfl rfl (ok_worksOut hL (x := x) (m := 3) hx14 (by decide) (by rw [hB_5 1000 (by decide)]; exact hlen) (by rw [hB_5 1000 (by decide)]; exact hmany) (by rw [hB_5 1000 (by decide)]; exact hokc)) cal_X3_worksOut q1529 rfl hl.1 (Nat.le_of_ble_eq_true rfl) dX3_highOf_63 ⟨Nat.le_of_ble_eq_true rfl, Nat.le_of_ble_eq_true rfl⟩ ⟨Nat.le_of_ble_eq_true rfl, Nat.le_of_ble_eq_true rfl⟩) hM (fun r_6 ka_7 H locs p_8 hM => ?_)
    obtain ⟨hr1, hq⟩ := p_8
    have hr2 : r_6 = worksT (ka 1000) x (facH (ka 1000) c) := by rw [hr1, hB_5 1000 (by decide)]; exact worksT_congr (by decide) hokc hfa
    have hB_7 : But [1023, 1024] ka ka_7 := But.trans hB_5 (But.mono hq (by decide))
    refine lv_iconst (v := 0) hx hb dX3_highOf_66 (by decide) ?_
    refine lv_sipush (v := 999) hx hb dX3_highOf_67 (by decide) ?_
    refine k_pe (v := wi r_6 0 999) (r_S (As := [.int r_6, .int 0, .int 999]) (rest := []) B hM (ok_within r_6 0 999) cal_X3_within q1526 rfl hl.1 (Nat.le_of_ble_eq_true rfl) dX3_highOf_70 ⟨Nat.le_of_ble_eq_true rfl, Nat.le_of_ble_eq_true rfl⟩ ⟨Nat.le_of_ble_eq_true rfl, Nat.le_of_ble_eq_true rfl⟩) hM (fun H locs hM => ?_)
    refine r_topv (v := plainT (ka 1000) c) (by rw [plainT, hcx]; show _ = wi (worksT _ _ _) _ _; rw [← hr2]) ?_
    refine lv_topi (fun v_9 ev_9 => ?_)
    refine lv_istore (lv' := [(4, .int v_9), (3, .int v_2), (2, .int v_1), (0, .ref y0), (1, .int (nI c))]) hx hb dX3_highOf_73 hl (by decide) rfl (fun ls hl => ?_)
    refine lv_aload_n hx hb dX3_highOf_75 rfl (lv_at hl 3 rfl) ?_
    refine lv_iload_n hx hb dX3_highOf_76 rfl (lv_at hl 4 rfl) ?_
    refine lv_iconst (v := 0) hx hb dX3_highOf_77 (by decide) ?_
    refine k_pe (v := ka_7 1000 (7 + 6 * c + 0)) (r_V (As := [.int (nI c), .int 0]) (rest := []) B hM hL.1 rfl rfl (ok_of hL (c := c) (w := 0) (by omega) (by omega)) cal_X3_of q1510 rfl hl.1 (Nat.le_of_ble_eq_true rfl) dX3_highOf_78 ⟨Nat.le_of_ble_eq_true rfl, Nat.le_of_ble_eq_true rfl⟩ ⟨Nat.le_of_ble_eq_true rfl, Nat.le_of_ble_eq_true rfl⟩) hM (fun H locs hM => ?_)
    refine r_topv (v := ka 1000 (7 + 6 * c + 0)) (by rw [(hB_7 1000 (by decide))]) ?_
    by_cases w81_1 : ka 1000 (7 + 6 * c + 0) = 1
    · refine lv_tableIn (tgt := 116) (off := 35) hx hb dX3_highOf_81 (by rw [w81_1]; decide) (by rw [w81_1]; decide) (by rw [w81_1]; rfl) (by decide) ?_
      refine lv_iload hx hb dX3_highOf_116 (lv_at hl 0 rfl) ?_
      refine lv_iconst (v := 2) hx hb dX3_highOf_118 (by decide) ?_
      refine lv_idiv hx hb dX3_highOf_119 (by decide) ?_
      refine r_iret B hr hM dX3_highOf_120 ?_
      refine ⟨?_, hB_7⟩
      try subst_vars
      grind [highT]
    by_cases w81_2 : ka 1000 (7 + 6 * c + 0) = 2
    · refine lv_tableIn (tgt := 138) (off := 57) hx hb dX3_highOf_81 (by rw [w81_2]; decide) (by rw [w81_2]; decide) (by rw [w81_2]; rfl) (by decide) ?_
      refine lv_iload_n hx hb dX3_highOf_138 rfl (lv_at hl 2 rfl) ?_
      refine lv_if_le (tgt := 149) hx hb dX3_highOf_139 (by decide) (fun c139 => ?_) (fun c139 => ?_)
      · refine lv_iload hx hb dX3_highOf_149 (lv_at hl 0 rfl) ?_
        refine r_iret B hr hM dX3_highOf_151 ?_
        refine ⟨?_, hB_7⟩
        try subst_vars
        grind [highT]
      · refine lv_iload hx hb dX3_highOf_142 (lv_at hl 0 rfl) ?_
        refine lv_iconst (v := 1) hx hb dX3_highOf_144 (by decide) ?_
        refine lv_iadd hx hb dX3_highOf_145 ?_
        refine lv_goto (tgt := 151) hx hb dX3_highOf_146 (by decide) ?_
        refine r_iret B hr hM dX3_highOf_151 ?_
        refine ⟨?_, hB_7⟩
        try subst_vars
        grind [highT]
    by_cases w81_3 : ka 1000 (7 + 6 * c + 0) = 3
    · refine lv_tableIn (tgt := 121) (off := 40) hx hb dX3_highOf_81 (by rw [w81_3]; decide) (by rw [w81_3]; decide) (by rw [w81_3]; rfl) (by decide) ?_
      refine lv_iload hx hb dX3_highOf_121 (lv_at hl 0 rfl) ?_
      refine lv_iconst (v := 4) hx hb dX3_highOf_123 (by decide) ?_
      refine lv_icmp_ge (tgt := 131) hx hb dX3_highOf_124 (by decide) (fun c124 => ?_) (fun c124 => ?_)
      · refine lv_iload hx hb dX3_highOf_131 (lv_at hl 0 rfl) ?_
        refine lv_iconst (v := 2) hx hb dX3_highOf_133 (by decide) ?_
        refine lv_idiv hx hb dX3_highOf_134 (by decide) ?_
        refine lv_iconst (v := 2) hx hb dX3_highOf_135 (by decide) ?_
        refine lv_isub hx hb dX3_highOf_136 ?_
        refine r_iret B hr hM dX3_highOf_137 ?_
        refine ⟨?_, hB_7⟩
        try subst_vars
        grind [highT]
      · refine lv_iconst (v := 0) hx hb dX3_highOf_127 (by decide) ?_
        refine lv_goto (tgt := 137) hx hb dX3_highOf_128 (by decide) ?_
        refine r_iret B hr hM dX3_highOf_137 ?_
        refine ⟨?_, hB_7⟩
        try subst_vars
        grind [highT]
    by_cases w81_4 : ka 1000 (7 + 6 * c + 0) = 4
    · refine lv_tableIn (tgt := 138) (off := 57) hx hb dX3_highOf_81 (by rw [w81_4]; decide) (by rw [w81_4]; decide) (by rw [w81_4]; rfl) (by decide) ?_
      refine lv_iload_n hx hb dX3_highOf_138 rfl (lv_at hl 2 rfl) ?_
      refine lv_if_le (tgt := 149) hx hb dX3_highOf_139 (by decide) (fun c139 => ?_) (fun c139 => ?_)
      · refine lv_iload hx hb dX3_highOf_149 (lv_at hl 0 rfl) ?_
        refine r_iret B hr hM dX3_highOf_151 ?_
        refine ⟨?_, hB_7⟩
        try subst_vars
        grind [highT]
      · refine lv_iload hx hb dX3_highOf_142 (lv_at hl 0 rfl) ?_
        refine lv_iconst (v := 1) hx hb dX3_highOf_144 (by decide) ?_
        refine lv_iadd hx hb dX3_highOf_145 ?_
        refine lv_goto (tgt := 151) hx hb dX3_highOf_146 (by decide) ?_
        refine r_iret B hr hM dX3_highOf_151 ?_
        refine ⟨?_, hB_7⟩
        try subst_vars
        grind [highT]
    by_cases w81_5 : ka 1000 (7 + 6 * c + 0) = 5
    · refine lv_tableIn (tgt := 152) (off := 71) hx hb dX3_highOf_81 (by rw [w81_5]; decide) (by rw [w81_5]; decide) (by rw [w81_5]; rfl) (by decide) ?_
      refine lv_iconst (v := 0) hx hb dX3_highOf_152 (by decide) ?_
      refine r_iret B hr hM dX3_highOf_153 ?_
      refine ⟨?_, hB_7⟩
      try subst_vars
      grind [highT]
    have tw81_1 : Int32.toInt (ka 1000 (7 + 6 * c + 0)) ≠ 1 := fun z => w81_1 (Int32.toInt_inj.mp (z.trans (by decide)))
    have tw81_2 : Int32.toInt (ka 1000 (7 + 6 * c + 0)) ≠ 2 := fun z => w81_2 (Int32.toInt_inj.mp (z.trans (by decide)))
    have tw81_3 : Int32.toInt (ka 1000 (7 + 6 * c + 0)) ≠ 3 := fun z => w81_3 (Int32.toInt_inj.mp (z.trans (by decide)))
    have tw81_4 : Int32.toInt (ka 1000 (7 + 6 * c + 0)) ≠ 4 := fun z => w81_4 (Int32.toInt_inj.mp (z.trans (by decide)))
    have tw81_5 : Int32.toInt (ka 1000 (7 + 6 * c + 0)) ≠ 5 := fun z => w81_5 (Int32.toInt_inj.mp (z.trans (by decide)))
    refine lv_tableOut (tgt := 154) hx hb dX3_highOf_81 (by omega) (by decide) ?_
    refine lv_iload hx hb dX3_highOf_154 (lv_at hl 0 rfl) ?_
    refine r_iret B hr hM dX3_highOf_156 ?_
    refine ⟨?_, hB_7⟩
    try subst_vars
    grind [highT]
  · have hcn := opI_neg (t := ka 1000) (by rw [← ev_2]; exact c44) (cntT_lt hR)
    refine lv_iload_n hx hb dX3_highOf_47 rfl (lv_at hl 1 rfl) ?_
    refine lv_bipush (v := 10) hx hb dX3_highOf_48 (by decide) ?_
    refine lv_idiv hx hb dX3_highOf_50 (by decide) ?_
    refine lv_iconst (v := 0) hx hb dX3_highOf_51 (by decide) ?_
    refine lv_sipush (v := 999) hx hb dX3_highOf_52 (by decide) ?_
    refine k_pe (v := wi (v_1 / 10) 0 999) (r_S (As := [.int (v_1 / 10), .int 0, .int 999]) (rest := []) B hM (ok_within (v_1 / 10) 0 999) cal_X3_within q1526 rfl hl.1 (Nat.le_of_ble_eq_true rfl) dX3_highOf_55 ⟨Nat.le_of_ble_eq_true rfl, Nat.le_of_ble_eq_true rfl⟩ ⟨Nat.le_of_ble_eq_true rfl, Nat.le_of_ble_eq_true rfl⟩) hM (fun H locs hM => ?_)
    refine lv_goto (tgt := 73) hx hb dX3_highOf_58 (by decide) ?_
    refine r_topv (v := plainT (ka 1000) c) (by rw [plainT, hcn, ev_1]) ?_
    refine lv_topi (fun v_10 ev_10 => ?_)
    refine lv_istore (lv' := [(4, .int v_10), (3, .int v_2), (2, .int v_1), (0, .ref y0), (1, .int (nI c))]) hx hb dX3_highOf_73 hl (by decide) rfl (fun ls hl => ?_)
    refine lv_aload_n hx hb dX3_highOf_75 rfl (lv_at hl 3 rfl) ?_
    refine lv_iload_n hx hb dX3_highOf_76 rfl (lv_at hl 4 rfl) ?_
    refine lv_iconst (v := 0) hx hb dX3_highOf_77 (by decide) ?_
    refine k_pe (v := ka_5 1000 (7 + 6 * c + 0)) (r_V (As := [.int (nI c), .int 0]) (rest := []) B hM hL.1 rfl rfl (ok_of hL (c := c) (w := 0) (by omega) (by omega)) cal_X3_of q1510 rfl hl.1 (Nat.le_of_ble_eq_true rfl) dX3_highOf_78 ⟨Nat.le_of_ble_eq_true rfl, Nat.le_of_ble_eq_true rfl⟩ ⟨Nat.le_of_ble_eq_true rfl, Nat.le_of_ble_eq_true rfl⟩) hM (fun H locs hM => ?_)
    refine r_topv (v := ka 1000 (7 + 6 * c + 0)) (by rw [(hB_5 1000 (by decide))]) ?_
    by_cases w81_1 : ka 1000 (7 + 6 * c + 0) = 1
    · refine lv_tableIn (tgt := 116) (off := 35) hx hb dX3_highOf_81 (by rw [w81_1]; decide) (by rw [w81_1]; decide) (by rw [w81_1]; rfl) (by decide) ?_
      refine lv_iload hx hb dX3_highOf_116 (lv_at hl 0 rfl) ?_
      refine lv_iconst (v := 2) hx hb dX3_highOf_118 (by decide) ?_
      refine lv_idiv hx hb dX3_highOf_119 (by decide) ?_
      refine r_iret B hr hM dX3_highOf_120 ?_
      refine ⟨?_, hB_5⟩
      try subst_vars
      grind [highT]
    by_cases w81_2 : ka 1000 (7 + 6 * c + 0) = 2
    · refine lv_tableIn (tgt := 138) (off := 57) hx hb dX3_highOf_81 (by rw [w81_2]; decide) (by rw [w81_2]; decide) (by rw [w81_2]; rfl) (by decide) ?_
      refine lv_iload_n hx hb dX3_highOf_138 rfl (lv_at hl 2 rfl) ?_
      refine lv_if_le (tgt := 149) hx hb dX3_highOf_139 (by decide) (fun c139 => ?_) (fun c139 => ?_)
      · refine lv_iload hx hb dX3_highOf_149 (lv_at hl 0 rfl) ?_
        refine r_iret B hr hM dX3_highOf_151 ?_
        refine ⟨?_, hB_5⟩
        try subst_vars
        grind [highT]
      · refine lv_iload hx hb dX3_highOf_142 (lv_at hl 0 rfl) ?_
        refine lv_iconst (v := 1) hx hb dX3_highOf_144 (by decide) ?_
        refine lv_iadd hx hb dX3_highOf_145 ?_
        refine lv_goto (tgt := 151) hx hb dX3_highOf_146 (by decide) ?_
        refine r_iret B hr hM dX3_highOf_151 ?_
        refine ⟨?_, hB_5⟩
        try subst_vars
        grind [highT]
    by_cases w81_3 : ka 1000 (7 + 6 * c + 0) = 3
    · refine lv_tableIn (tgt := 121) (off := 40) hx hb dX3_highOf_81 (by rw [w81_3]; decide) (by rw [w81_3]; decide) (by rw [w81_3]; rfl) (by decide) ?_
      refine lv_iload hx hb dX3_highOf_121 (lv_at hl 0 rfl) ?_
      refine lv_iconst (v := 4) hx hb dX3_highOf_123 (by decide) ?_
      refine lv_icmp_ge (tgt := 131) hx hb dX3_highOf_124 (by decide) (fun c124 => ?_) (fun c124 => ?_)
      · refine lv_iload hx hb dX3_highOf_131 (lv_at hl 0 rfl) ?_
        refine lv_iconst (v := 2) hx hb dX3_highOf_133 (by decide) ?_
        refine lv_idiv hx hb dX3_highOf_134 (by decide) ?_
        refine lv_iconst (v := 2) hx hb dX3_highOf_135 (by decide) ?_
        refine lv_isub hx hb dX3_highOf_136 ?_
        refine r_iret B hr hM dX3_highOf_137 ?_
        refine ⟨?_, hB_5⟩
        try subst_vars
        grind [highT]
      · refine lv_iconst (v := 0) hx hb dX3_highOf_127 (by decide) ?_
        refine lv_goto (tgt := 137) hx hb dX3_highOf_128 (by decide) ?_
        refine r_iret B hr hM dX3_highOf_137 ?_
        refine ⟨?_, hB_5⟩
        try subst_vars
        grind [highT]
    by_cases w81_4 : ka 1000 (7 + 6 * c + 0) = 4
    · refine lv_tableIn (tgt := 138) (off := 57) hx hb dX3_highOf_81 (by rw [w81_4]; decide) (by rw [w81_4]; decide) (by rw [w81_4]; rfl) (by decide) ?_
      refine lv_iload_n hx hb dX3_highOf_138 rfl (lv_at hl 2 rfl) ?_
      refine lv_if_le (tgt := 149) hx hb dX3_highOf_139 (by decide) (fun c139 => ?_) (fun c139 => ?_)
      · refine lv_iload hx hb dX3_highOf_149 (lv_at hl 0 rfl) ?_
        refine r_iret B hr hM dX3_highOf_151 ?_
        refine ⟨?_, hB_5⟩
        try subst_vars
        grind [highT]
      · refine lv_iload hx hb dX3_highOf_142 (lv_at hl 0 rfl) ?_
        refine lv_iconst (v := 1) hx hb dX3_highOf_144 (by decide) ?_
        refine lv_iadd hx hb dX3_highOf_145 ?_
        refine lv_goto (tgt := 151) hx hb dX3_highOf_146 (by decide) ?_
        refine r_iret B hr hM dX3_highOf_151 ?_
        refine ⟨?_, hB_5⟩
        try subst_vars
        grind [highT]
    by_cases w81_5 : ka 1000 (7 + 6 * c + 0) = 5
    · refine lv_tableIn (tgt := 152) (off := 71) hx hb dX3_highOf_81 (by rw [w81_5]; decide) (by rw [w81_5]; decide) (by rw [w81_5]; rfl) (by decide) ?_
      refine lv_iconst (v := 0) hx hb dX3_highOf_152 (by decide) ?_
      refine r_iret B hr hM dX3_highOf_153 ?_
      refine ⟨?_, hB_5⟩
      try subst_vars
      grind [highT]
    have tw81_1 : Int32.toInt (ka 1000 (7 + 6 * c + 0)) ≠ 1 := fun z => w81_1 (Int32.toInt_inj.mp (z.trans (by decide)))
    have tw81_2 : Int32.toInt (ka 1000 (7 + 6 * c + 0)) ≠ 2 := fun z => w81_2 (Int32.toInt_inj.mp (z.trans (by decide)))
    have tw81_3 : Int32.toInt (ka 1000 (7 + 6 * c + 0)) ≠ 3 := fun z => w81_3 (Int32.toInt_inj.mp (z.trans (by decide)))
    have tw81_4 : Int32.toInt (ka 1000 (7 + 6 * c + 0)) ≠ 4 := fun z => w81_4 (Int32.toInt_inj.mp (z.trans (by decide)))
    have tw81_5 : Int32.toInt (ka 1000 (7 + 6 * c + 0)) ≠ 5 := fun z => w81_5 (Int32.toInt_inj.mp (z.trans (by decide)))
    refine lv_tableOut (tgt := 154) hx hb dX3_highOf_81 (by omega) (by decide) ?_
    refine lv_iload hx hb dX3_highOf_154 (lv_at hl 0 rfl) ?_
    refine r_iret B hr hM dX3_highOf_156 ?_
    refine ⟨?_, hB_5⟩
    try subst_vars
    grind [highT]
set_option maxHeartbeats 4000000 in
theorem ok_levelOf (hL : LayM th rh y0 ay) (hR : Rok (ka 1000)) {c : Nat} (hc : c < 8) : Met l yX3_levelOf (ws_ yX3_levelOf cX3_levelOf 2 (some .int)) (RM 4 0 0) (Pc_ G [.ref y0, .int (nI c)] th rh ph ka) (Qi G th rh ph (fun r ka' => r = levelT (ka 1000) c ∧ But [1023, 1024] ka ka')) 0 0 (frG G) := by
  refine m_of (by decide) (Nat.le_of_ble_eq_true rfl) ?_
  intro p_ e_ s_ m_ below_ meth_ c_ B hr hnm ls hl hM
  have hx := B.1
  have hb := B.2.1
  have hM := hM
  refine lv_aload_n hx hb dX3_levelOf_0 rfl (lv_at hl 0 rfl) ?_
  refine lv_iload_n hx hb dX3_levelOf_1 rfl (lv_at hl 1 rfl) ?_
  refine lv_iconst (v := 1) hx hb dX3_levelOf_2 (by decide) ?_
  refine k_pe (v := ka 1000 (7 + 6 * c + 1)) (r_V (As := [.int (nI c), .int 1]) (rest := []) B hM hL.1 rfl rfl (ok_of hL (c := c) (w := 1) (by omega) (by omega)) cal_X3_of q1510 rfl hl.1 (Nat.le_of_ble_eq_true rfl) dX3_levelOf_3 ⟨Nat.le_of_ble_eq_true rfl, Nat.le_of_ble_eq_true rfl⟩ ⟨Nat.le_of_ble_eq_true rfl, Nat.le_of_ble_eq_true rfl⟩) hM (fun H locs hM => ?_)
  refine lv_aload_n hx hb dX3_levelOf_6 rfl (lv_at hl 0 rfl) ?_
  refine lv_iload_n hx hb dX3_levelOf_7 rfl (lv_at hl 1 rfl) ?_
  refine k_i (r_V (As := [.int (nI c)]) (rest := [.int (ka 1000 (7 + 6 * c + 1))]) B hM hL.1 rfl rfl (ok_highOf hL hR (c := c) (by omega)) cal_X3_highOf q1518 rfl hl.1 (Nat.le_of_ble_eq_true rfl) dX3_levelOf_8 ⟨Nat.le_of_ble_eq_true rfl, Nat.le_of_ble_eq_true rfl⟩ ⟨Nat.le_of_ble_eq_true rfl, Nat.le_of_ble_eq_true rfl⟩) hM (fun r_1 ka_2 H locs p_3 hM => ?_)
  obtain ⟨rfl, hq⟩ := p_3
  have hB_2 : But [1023, 1024] ka ka_2 := But.trans But.refl (But.mono hq (by decide))
  refine lv_iadd hx hb dX3_levelOf_11 ?_
  refine r_iret B hr hM dX3_levelOf_12 ?_
  exact ⟨rfl, hB_2⟩
set_option maxHeartbeats 4000000 in
theorem ok_higher (hL : LayM th rh y0 ay) (hR : Rok (ka 1000)) {q : Nat} (hq : q < nP (ka 1000)) : Met l yX3_higher (ws_ yX3_higher cX3_higher 2 (some .int)) (RM 5 0 0) (Pc_ G [.ref y0, .int (nI q)] th rh ph ka) (Qi G th rh ph (fun r ka' => r = nI (higherT (ka 1000) q) ∧ But [1023, 1024] ka ka')) 0 0 (frG G) := by
  refine m_of (by decide) (Nat.le_of_ble_eq_true rfl) ?_
  intro p_ e_ s_ m_ below_ meth_ c_ B hr hnm ls hl hM
  have hx := B.1
  have hb := B.2.1
  have hM := hM
  obtain ⟨hp1, hp2, hp3, hp4⟩ := hR.2.2.2.1 q hq
  have h8 := hR.1.2
  have h13 := hR.2.1.2
  obtain ⟨hh1, hh2⟩ := higher_lt hp2 hp4
  refine lv_aload_n hx hb dX3_higher_0 rfl (lv_at hl 0 rfl) ?_
  refine lv_aload_n hx hb dX3_higher_1 rfl (lv_at hl 0 rfl) ?_
  refine lv_iload_n hx hb dX3_higher_2 rfl (lv_at hl 1 rfl) ?_
  refine lv_iconst (v := 0) hx hb dX3_higher_3 (by decide) ?_
  refine k_pe (v := ka 1000 (55 + 4 * q + 0)) (r_V (As := [.int (nI q), .int 0]) (rest := [.ref y0]) B hM hL.1 rfl rfl (ok_at hL (c := q) (w := 0) (by omega) (by omega)) cal_X3_at q1596 rfl hl.1 (Nat.le_of_ble_eq_true rfl) dX3_higher_4 ⟨Nat.le_of_ble_eq_true rfl, Nat.le_of_ble_eq_true rfl⟩ ⟨Nat.le_of_ble_eq_true rfl, Nat.le_of_ble_eq_true rfl⟩) hM (fun H locs hM => ?_)
  refine r_topv (v := nI (pA (ka 1000) q)) hp1 ?_
  refine k_i (r_V (As := [.int (nI (pA (ka 1000) q))]) (rest := []) B hM hL.1 rfl rfl (ok_levelOf hL hR (c := pA (ka 1000) q) (by omega)) cal_X3_levelOf q1536 rfl hl.1 (Nat.le_of_ble_eq_true rfl) dX3_higher_7 ⟨Nat.le_of_ble_eq_true rfl, Nat.le_of_ble_eq_true rfl⟩ ⟨Nat.le_of_ble_eq_true rfl, Nat.le_of_ble_eq_true rfl⟩) hM (fun r_1 ka_2 H locs p_3 hM => ?_)
  obtain ⟨rfl, hq⟩ := p_3
  have hB_2 : But [1023, 1024] ka ka_2 := But.trans But.refl (But.mono hq (by decide))
  refine lv_aload_n hx hb dX3_higher_10 rfl (lv_at hl 0 rfl) ?_
  refine lv_aload_n hx hb dX3_higher_11 rfl (lv_at hl 0 rfl) ?_
  refine lv_iload_n hx hb dX3_higher_12 rfl (lv_at hl 1 rfl) ?_
  refine lv_iconst (v := 1) hx hb dX3_higher_13 (by decide) ?_
  refine k_pe (v := ka_2 1000 (55 + 4 * q + 1)) (r_V (As := [.int (nI q), .int 1]) (rest := [.ref y0, .int (levelT (ka 1000) (pA (ka 1000) q))]) B hM hL.1 rfl rfl (ok_at hL (c := q) (w := 1) (by omega) (by omega)) cal_X3_at q1596 rfl hl.1 (Nat.le_of_ble_eq_true rfl) dX3_higher_14 ⟨Nat.le_of_ble_eq_true rfl, Nat.le_of_ble_eq_true rfl⟩ ⟨Nat.le_of_ble_eq_true rfl, Nat.le_of_ble_eq_true rfl⟩) hM (fun H locs hM => ?_)
  refine r_topv (v := ka 1000 (55 + 4 * q + 1)) (by rw [(hB_2 1000 (by decide))]) ?_
  refine r_topv (v := nI (pB (ka 1000) q)) hp3 ?_
  refine k_i (r_V (As := [.int (nI (pB (ka 1000) q))]) (rest := [.int (levelT (ka 1000) (pA (ka 1000) q))]) B hM hL.1 rfl rfl (ok_levelOf hL (by rw [(hB_2 1000 (by decide))]; exact hR) (c := pB (ka 1000) q) (by omega)) cal_X3_levelOf q1536 rfl hl.1 (Nat.le_of_ble_eq_true rfl) dX3_higher_17 ⟨Nat.le_of_ble_eq_true rfl, Nat.le_of_ble_eq_true rfl⟩ ⟨Nat.le_of_ble_eq_true rfl, Nat.le_of_ble_eq_true rfl⟩) hM (fun r_4 ka_5 H locs p_6 hM => ?_)
  obtain ⟨rfl, hq⟩ := p_6
  have hB_5 : But [1023, 1024] ka ka_5 := But.trans hB_2 (But.mono hq (by decide))
  refine r_topv (v := levelT (ka 1000) (pB (ka 1000) q)) (by rw [(hB_2 1000 (by decide))]) ?_
  refine lv_icmp_le (tgt := 32) hx hb dX3_higher_20 (by decide) (fun c20 => ?_) (fun c20 => ?_)
  · refine lv_aload_n hx hb dX3_higher_32 rfl (lv_at hl 0 rfl) ?_
    refine lv_iload_n hx hb dX3_higher_33 rfl (lv_at hl 1 rfl) ?_
    refine lv_iconst (v := 1) hx hb dX3_higher_34 (by decide) ?_
    refine k_pe (v := ka_5 1000 (55 + 4 * q + 1)) (r_V (As := [.int (nI q), .int 1]) (rest := []) B hM hL.1 rfl rfl (ok_at hL (c := q) (w := 1) (by omega) (by omega)) cal_X3_at q1596 rfl hl.1 (Nat.le_of_ble_eq_true rfl) dX3_higher_35 ⟨Nat.le_of_ble_eq_true rfl, Nat.le_of_ble_eq_true rfl⟩ ⟨Nat.le_of_ble_eq_true rfl, Nat.le_of_ble_eq_true rfl⟩) hM (fun H locs hM => ?_)
    refine r_topv (v := ka 1000 (55 + 4 * q + 1)) (by rw [(hB_5 1000 (by decide))]) ?_
    refine r_topv (v := nI (pB (ka 1000) q)) hp3 ?_
    refine r_iret B hr hM dX3_higher_38 ?_
    refine ⟨?_, hB_5⟩
    unfold higherT
    first | rw [if_pos (i_nle.mp c20)] | rw [if_neg (i_nlt.mpr c20)]
  · refine lv_aload_n hx hb dX3_higher_23 rfl (lv_at hl 0 rfl) ?_
    refine lv_iload_n hx hb dX3_higher_24 rfl (lv_at hl 1 rfl) ?_
    refine lv_iconst (v := 0) hx hb dX3_higher_25 (by decide) ?_
    refine k_pe (v := ka_5 1000 (55 + 4 * q + 0)) (r_V (As := [.int (nI q), .int 0]) (rest := []) B hM hL.1 rfl rfl (ok_at hL (c := q) (w := 0) (by omega) (by omega)) cal_X3_at q1596 rfl hl.1 (Nat.le_of_ble_eq_true rfl) dX3_higher_26 ⟨Nat.le_of_ble_eq_true rfl, Nat.le_of_ble_eq_true rfl⟩ ⟨Nat.le_of_ble_eq_true rfl, Nat.le_of_ble_eq_true rfl⟩) hM (fun H locs hM => ?_)
    refine r_topv (v := ka 1000 (55 + 4 * q + 0)) (by rw [(hB_5 1000 (by decide))]) ?_
    refine r_topv (v := nI (pA (ka 1000) q)) hp1 ?_
    refine lv_goto (tgt := 38) hx hb dX3_higher_29 (by decide) ?_
    refine r_iret B hr hM dX3_higher_38 ?_
    refine ⟨?_, hB_5⟩
    unfold higherT
    first | rw [if_pos (i_nle.mp c20)] | rw [if_neg (i_nlt.mpr c20)]
set_option maxHeartbeats 4000000 in
theorem ok_runsIn (hL : LayM th rh y0 ay) (hR : Rok (ka 1000)) {q : Nat} (hq : q < nP (ka 1000)) : Met l yX3_runsIn (ws_ yX3_runsIn cX3_runsIn 5 (some .int)) (RM 6 0 0) (Pc_ G [.ref y0, .int (nI q)] th rh ph ka) (Qi G th rh ph (fun r ka' => r = runsT (ka 1000) q ∧ But [1023, 1024] ka ka')) 0 0 (frG G) := by
  refine m_of (by decide) (Nat.le_of_ble_eq_true rfl) ?_
  intro p_ e_ s_ m_ below_ meth_ c_ B hr hnm ls hl hM
  have hx := B.1
  have hb := B.2.1
  have hM := hM
  obtain ⟨hp1, hp2, hp3, hp4⟩ := hR.2.2.2.1 q hq
  have h8 := hR.1.2
  have h13 := hR.2.1.2
  obtain ⟨hh1, hh2⟩ := higher_lt hp2 hp4
  refine lv_aload_n hx hb dX3_runsIn_0 rfl (lv_at hl 0 rfl) ?_
  refine lv_iload_n hx hb dX3_runsIn_1 rfl (lv_at hl 1 rfl) ?_
  refine lv_iconst (v := 3) hx hb dX3_runsIn_2 (by decide) ?_
  refine k_pe (v := ka 1000 (55 + 4 * q + 3)) (r_V (As := [.int (nI q), .int 3]) (rest := []) B hM hL.1 rfl rfl (ok_at hL (c := q) (w := 3) (by omega) (by omega)) cal_X3_at q1596 rfl hl.1 (Nat.le_of_ble_eq_true rfl) dX3_runsIn_3 ⟨Nat.le_of_ble_eq_true rfl, Nat.le_of_ble_eq_true rfl⟩ ⟨Nat.le_of_ble_eq_true rfl, Nat.le_of_ble_eq_true rfl⟩) hM (fun H locs hM => ?_)
  refine lv_iconst (v := 1) hx hb dX3_runsIn_6 (by decide) ?_
  refine lv_icmp_ne (tgt := 12) hx hb dX3_runsIn_7 (by decide) (fun c7 => ?_) (fun c7 => ?_)
  · refine lv_aload_n hx hb dX3_runsIn_12 rfl (lv_at hl 0 rfl) ?_
    refine lv_iload_n hx hb dX3_runsIn_13 rfl (lv_at hl 1 rfl) ?_
    refine k_i (r_V (As := [.int (nI q)]) (rest := []) B hM hL.1 rfl rfl (ok_higher hL hR (q := q) (by omega)) cal_X3_higher q1600 rfl hl.1 (Nat.le_of_ble_eq_true rfl) dX3_runsIn_14 ⟨Nat.le_of_ble_eq_true rfl, Nat.le_of_ble_eq_true rfl⟩ ⟨Nat.le_of_ble_eq_true rfl, Nat.le_of_ble_eq_true rfl⟩) hM (fun r_1 ka_2 H locs p_3 hM => ?_)
    obtain ⟨rfl, hq⟩ := p_3
    have hB_2 : But [1023, 1024] ka ka_2 := But.trans But.refl (But.mono hq (by decide))
    refine lv_istore_n (lv' := [(2, .int (nI (higherT (ka 1000) q))), (0, .ref y0), (1, .int (nI q))]) hx hb dX3_runsIn_17 rfl hl (by decide) rfl (fun ls hl => ?_)
    refine lv_aload_n hx hb dX3_runsIn_18 rfl (lv_at hl 1 rfl) ?_
    refine lv_iload_n hx hb dX3_runsIn_19 rfl (lv_at hl 2 rfl) ?_
    refine lv_iconst (v := 0) hx hb dX3_runsIn_20 (by decide) ?_
    refine k_pe (v := ka_2 1000 (55 + 4 * q + 0)) (r_V (As := [.int (nI q), .int 0]) (rest := []) B hM hL.1 rfl rfl (ok_at hL (c := q) (w := 0) (by omega) (by omega)) cal_X3_at q1596 rfl hl.1 (Nat.le_of_ble_eq_true rfl) dX3_runsIn_21 ⟨Nat.le_of_ble_eq_true rfl, Nat.le_of_ble_eq_true rfl⟩ ⟨Nat.le_of_ble_eq_true rfl, Nat.le_of_ble_eq_true rfl⟩) hM (fun H locs hM => ?_)
    refine r_topv (v := ka 1000 (55 + 4 * q + 0)) (by rw [(hB_2 1000 (by decide))]) ?_
    refine r_topv (v := nI (pA (ka 1000) q)) hp1 ?_
    refine lv_aload_n hx hb dX3_runsIn_24 rfl (lv_at hl 1 rfl) ?_
    refine lv_iload_n hx hb dX3_runsIn_25 rfl (lv_at hl 2 rfl) ?_
    refine lv_iconst (v := 1) hx hb dX3_runsIn_26 (by decide) ?_
    refine k_pe (v := ka_2 1000 (55 + 4 * q + 1)) (r_V (As := [.int (nI q), .int 1]) (rest := [.int (nI (pA (ka 1000) q))]) B hM hL.1 rfl rfl (ok_at hL (c := q) (w := 1) (by omega) (by omega)) cal_X3_at q1596 rfl hl.1 (Nat.le_of_ble_eq_true rfl) dX3_runsIn_27 ⟨Nat.le_of_ble_eq_true rfl, Nat.le_of_ble_eq_true rfl⟩ ⟨Nat.le_of_ble_eq_true rfl, Nat.le_of_ble_eq_true rfl⟩) hM (fun H locs hM => ?_)
    refine r_topv (v := ka 1000 (55 + 4 * q + 1)) (by rw [(hB_2 1000 (by decide))]) ?_
    refine r_topv (v := nI (pB (ka 1000) q)) hp3 ?_
    refine lv_iadd hx hb dX3_runsIn_30 ?_
    refine lv_iload_n hx hb dX3_runsIn_31 rfl (lv_at hl 0 rfl) ?_
    refine lv_isub hx hb dX3_runsIn_32 ?_
    refine r_topv (v := nI (lowerT (ka 1000) q)) hl_sum ?_
    refine lv_istore_n (lv' := [(3, .int (nI (lowerT (ka 1000) q))), (2, .int (nI (higherT (ka 1000) q))), (0, .ref y0), (1, .int (nI q))]) hx hb dX3_runsIn_33 rfl hl (by decide) rfl (fun ls hl => ?_)
    refine lv_aload_n hx hb dX3_runsIn_34 rfl (lv_at hl 2 rfl) ?_
    refine lv_iload_n hx hb dX3_runsIn_35 rfl (lv_at hl 3 rfl) ?_
    refine lv_iconst (v := 2) hx hb dX3_runsIn_36 (by decide) ?_
    refine k_pe (v := ka_2 1000 (55 + 4 * q + 2)) (r_V (As := [.int (nI q), .int 2]) (rest := []) B hM hL.1 rfl rfl (ok_at hL (c := q) (w := 2) (by omega) (by omega)) cal_X3_at q1596 rfl hl.1 (Nat.le_of_ble_eq_true rfl) dX3_runsIn_37 ⟨Nat.le_of_ble_eq_true rfl, Nat.le_of_ble_eq_true rfl⟩ ⟨Nat.le_of_ble_eq_true rfl, Nat.le_of_ble_eq_true rfl⟩) hM (fun H locs hM => ?_)
    refine r_topv (v := ka 1000 (55 + 4 * q + 2)) (by rw [(hB_2 1000 (by decide))]) ?_
    refine lv_aload_n hx hb dX3_runsIn_40 rfl (lv_at hl 2 rfl) ?_
    refine lv_iload_n hx hb dX3_runsIn_41 rfl (lv_at hl 1 rfl) ?_
    refine k_i (r_V (As := [.int (nI (higherT (ka 1000) q))]) (rest := [.int (ka 1000 (55 + 4 * q + 2))]) B hM hL.1 rfl rfl (ok_levelOf hL (by rw [(hB_2 1000 (by decide))]; exact hR) (c := higherT (ka 1000) q) (by omega)) cal_X3_levelOf q1536 rfl hl.1 (Nat.le_of_ble_eq_true rfl) dX3_runsIn_42 ⟨Nat.le_of_ble_eq_true rfl, Nat.le_of_ble_eq_true rfl⟩ ⟨Nat.le_of_ble_eq_true rfl, Nat.le_of_ble_eq_true rfl⟩) hM (fun r_4 ka_5 H locs p_6 hM => ?_)
    obtain ⟨rfl, hq⟩ := p_6
    have hB_5 : But [1023, 1024] ka ka_5 := But.trans hB_2 (But.mono hq (by decide))
    refine r_topv (v := levelT (ka 1000) (higherT (ka 1000) q)) (by rw [(hB_2 1000 (by decide))]) ?_
    refine lv_aload_n hx hb dX3_runsIn_45 rfl (lv_at hl 2 rfl) ?_
    refine lv_iload_n hx hb dX3_runsIn_46 rfl (lv_at hl 0 rfl) ?_
    refine k_i (r_V (As := [.int (nI (lowerT (ka 1000) q))]) (rest := [.int (levelT (ka 1000) (higherT (ka 1000) q)), .int (ka 1000 (55 + 4 * q + 2))]) B hM hL.1 rfl rfl (ok_levelOf hL (by rw [(hB_5 1000 (by decide))]; exact hR) (c := lowerT (ka 1000) q) (by omega)) cal_X3_levelOf q1536 rfl hl.1 (Nat.le_of_ble_eq_true rfl) dX3_runsIn_47 ⟨Nat.le_of_ble_eq_true rfl, Nat.le_of_ble_eq_true rfl⟩ ⟨Nat.le_of_ble_eq_true rfl, Nat.le_of_ble_eq_true rfl⟩) hM (fun r_7 ka_8 H locs p_9 hM => ?_)
    obtain ⟨rfl, hq⟩ := p_9
    have hB_8 : But [1023, 1024] ka ka_8 := But.trans hB_5 (But.mono hq (by decide))
    refine r_topv (v := levelT (ka 1000) (lowerT (ka 1000) q)) (by rw [(hB_5 1000 (by decide))]) ?_
    refine lv_isub hx hb dX3_runsIn_50 ?_
    refine lv_imul hx hb dX3_runsIn_51 ?_
    refine lv_iconst (v := 2) hx hb dX3_runsIn_52 (by decide) ?_
    refine lv_idiv hx hb dX3_runsIn_53 (by decide) ?_
    refine lv_topi (fun v_10 ev_10 => ?_)
    refine lv_istore (lv' := [(4, .int v_10), (3, .int (nI (lowerT (ka 1000) q))), (2, .int (nI (higherT (ka 1000) q))), (0, .ref y0), (1, .int (nI q))]) hx hb dX3_runsIn_54 hl (by decide) rfl (fun ls hl => ?_)
    refine lv_aload_n hx hb dX3_runsIn_56 rfl (lv_at hl 3 rfl) ?_
    refine lv_iload_n hx hb dX3_runsIn_57 rfl (lv_at hl 1 rfl) ?_
    refine lv_iload hx hb dX3_runsIn_58 (lv_at hl 0 rfl) ?_
    refine lv_iconst (v := 0) hx hb dX3_runsIn_60 (by decide) ?_
    refine lv_aload_n hx hb dX3_runsIn_61 rfl (lv_at hl 3 rfl) ?_
    refine lv_iload_n hx hb dX3_runsIn_62 rfl (lv_at hl 2 rfl) ?_
    refine k_pe (v := fullT (ka_8 1000) (higherT (ka 1000) q)) (r_V (As := [.int (nI (higherT (ka 1000) q))]) (rest := [.int 0, .int v_10, .int (nI (lowerT (ka 1000) q)), .ref y0]) B hM hL.1 rfl rfl (ok_fullOf hL (c := higherT (ka 1000) q) (by omega)) cal_X3_fullOf q1514 rfl hl.1 (Nat.le_of_ble_eq_true rfl) dX3_runsIn_63 ⟨Nat.le_of_ble_eq_true rfl, Nat.le_of_ble_eq_true rfl⟩ ⟨Nat.le_of_ble_eq_true rfl, Nat.le_of_ble_eq_true rfl⟩) hM (fun H locs hM => ?_)
    refine r_topv (v := fullT (ka 1000) (higherT (ka 1000) q)) (by rw [(hB_8 1000 (by decide))]) ?_
    refine k_pe (v := wi v_10 0 (fullT (ka 1000) (higherT (ka 1000) q))) (r_S (As := [.int v_10, .int 0, .int (fullT (ka 1000) (higherT (ka 1000) q))]) (rest := [.int (nI (lowerT (ka 1000) q)), .ref y0]) B hM (ok_within v_10 0 (fullT (ka 1000) (higherT (ka 1000) q))) cal_X3_within q1526 rfl hl.1 (Nat.le_of_ble_eq_true rfl) dX3_runsIn_66 ⟨Nat.le_of_ble_eq_true rfl, Nat.le_of_ble_eq_true rfl⟩ ⟨Nat.le_of_ble_eq_true rfl, Nat.le_of_ble_eq_true rfl⟩) hM (fun H locs hM => ?_)
    refine k_pe (v := takesT (ka_8 1000) (lowerT (ka 1000) q) (wi v_10 0 (fullT (ka 1000) (higherT (ka 1000) q)))) (r_V (As := [.int (nI (lowerT (ka 1000) q)), .int (wi v_10 0 (fullT (ka 1000) (higherT (ka 1000) q)))]) (rest := []) B hM hL.1 rfl rfl (ok_takesIn hL (c := lowerT (ka 1000) q) (by omega) (wi v_10 0 (fullT (ka 1000) (higherT (ka 1000) q)))) cal_X3_takesIn q1552 rfl hl.1 (Nat.le_of_ble_eq_true rfl) dX3_runsIn_69 ⟨Nat.le_of_ble_eq_true rfl, Nat.le_of_ble_eq_true rfl⟩ ⟨Nat.le_of_ble_eq_true rfl, Nat.le_of_ble_eq_true rfl⟩) hM (fun H locs hM => ?_)
    refine r_topv (v := takesT (ka 1000) (lowerT (ka 1000) q) (wi v_10 0 (fullT (ka 1000) (higherT (ka 1000) q)))) (by rw [(hB_8 1000 (by decide))]) ?_
    refine r_iret B hr hM dX3_runsIn_72 ?_
    refine ⟨?_, hB_8⟩
    unfold runsT
    rw [if_neg c7, ev_10]
  · refine lv_iconst (v := 0) hx hb dX3_runsIn_10 (by decide) ?_
    refine r_iret B hr hM dX3_runsIn_11 ?_
    refine ⟨?_, But.refl⟩
    unfold runsT
    rw [if_pos c7]
end
