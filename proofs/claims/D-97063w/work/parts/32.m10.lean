/-! the model: what is only thought -/
set_option maxRecDepth 100000
section
variable {l : Launch} {G : GG} {th : Th} {rh : Rh} {ph : Ph} {ka : Ka} {y0 : Nat} {ay : Nat → Nat}
set_option maxHeartbeats 4000000 in
theorem ok_behind (hL : LayM th rh y0 ay) (hR : Rok (ka 1000)) (n w : Int32) : Met l yX3_behind (ws_ yX3_behind cX3_behind 4 (some .int)) (RM 10 0 0) (Pc_ G [.ref y0, .int n, .int w] th rh ph ka) (Qi G th rh ph (fun r ka' => r = A_behind (sg ka) n w ∧ Rel (sg ka) (sg ka'))) 0 0 (frG G) := by
  refine m_of (by decide) (Nat.le_of_ble_eq_true rfl) ?_
  intro p_ e_ s_ m_ below_ meth_ c_ B hr hnm ls hl hM
  have hx := B.1
  have hb := B.2.1
  have hM := hM
  have h8 := hR.1.2
  have h13 := hR.2.1.2
  have h14 := hR.2.2.1.2
  refine lv_iload_n hx hb dX3_behind_0 rfl (lv_at hl 1 rfl) ?_
  refine lv_iconst (v := 0) hx hb dX3_behind_1 (by decide) ?_
  refine lv_bipush (v := 100) hx hb dX3_behind_2 (by decide) ?_
  refine k_pb (r_S (As := [.int n, .int 0, .int 100]) (rest := []) B hM (ok_in n 0 100) cal_X3_in q1493 rfl hl.1 (Nat.le_of_ble_eq_true rfl) dX3_behind_4 ⟨Nat.le_of_ble_eq_true rfl, Nat.le_of_ble_eq_true rfl⟩ ⟨Nat.le_of_ble_eq_true rfl, Nat.le_of_ble_eq_true rfl⟩) hM (fun H locs b4 hM => ?_) (fun H locs b4 hM => ?_)
  · refine lv_if_eq (tgt := 29) hx hb dX3_behind_7 (by decide) (fun cZ => absurd cZ (by decide)) (fun c7 => ?_)
    refine lv_iload_n hx hb dX3_behind_10 rfl (lv_at hl 2 rfl) ?_
    refine lv_if_lt (tgt := 29) hx hb dX3_behind_11 (by decide) (fun c11 => ?_) (fun c11 => ?_)
    · refine lv_ldc hx hb B.2.2.2.1 (B.ts _ q1496) dX3_behind_29 ?_
      refine r_iret B hr hM dX3_behind_31 ?_
      constructor
      · simp only [A_behind, sg0, sg1, sg7, sg25, sg26, sg27, sg28, sg29, sg30, sg31, sg33, sg99] <;> grind
      · exact Rel.refl
    · refine lv_iload_n hx hb dX3_behind_14 rfl (lv_at hl 2 rfl) ?_
      refine lv_iconst (v := 1) hx hb dX3_behind_15 (by decide) ?_
      refine lv_icmp_le (tgt := 32) hx hb dX3_behind_16 (by decide) (fun c16 => ?_) (fun c16 => ?_)
      · obtain ⟨kn, hkna, hknb, rfl⟩ := (btw_iff (a := 0) (b := 100) (by decide) (by decide)).mp b4
        have hclkn : cl (nI kn) = kn := cl_nI (by omega)
        refine lv_aload_n hx hb dX3_behind_32 rfl (lv_at hl 0 rfl) ?_
        refine k_v (r_V (As := []) (rest := []) B hM hL.1 rfl rfl (ok_thinks hL) cal_X3_thinks q1665 rfl hl.1 (Nat.le_of_ble_eq_true rfl) dX3_behind_33 ⟨Nat.le_of_ble_eq_true rfl, Nat.le_of_ble_eq_true rfl⟩ ⟨Nat.le_of_ble_eq_true rfl, Nat.le_of_ble_eq_true rfl⟩) hM (fun ka_1 H locs p_2 hM => ?_)
        obtain ⟨ht1, hq⟩ := p_2
        have hT1 : ka_1 1000 = ka 1000 := (hq 1000 (by decide))
        have hbf1 : ∀ i, i < 107 → ka_1 1005 i = ka 1000 i := fun i hi => by rw [ht1]; exact if_pos hi
        have hB_1 : But [1000, 1004, 1005, 1023, 1024] ka ka_1 := But.trans But.refl (But.mono hq (by decide))
        refine lv_aload_n hx hb dX3_behind_36 rfl (lv_at hl 0 rfl) ?_
        refine lv_iload_n hx hb dX3_behind_37 rfl (lv_at hl 1 rfl) ?_
        refine k_v (r_V (As := [.int (nI kn)]) (rest := []) B hM hL.1 rfl rfl (ok_goesOn hL (by rw [hT1]; exact hR) (n := kn) (by omega)) cal_X3_goesOn q1629 rfl hl.1 (Nat.le_of_ble_eq_true rfl) dX3_behind_38 ⟨Nat.le_of_ble_eq_true rfl, Nat.le_of_ble_eq_true rfl⟩ ⟨Nat.le_of_ble_eq_true rfl, Nat.le_of_ble_eq_true rfl⟩) hM (fun ka_3 H locs p_4 hM => ?_)
        obtain ⟨hf3, hq⟩ := p_4
        have hT3 : ka_3 1000 = hoursT kn (ka 1000) := by rw [hf3, hT1]
        have hbf3 : ∀ i, i < 107 → ka_3 1005 i = ka 1000 i := fun i hi => by rw [hq 1005 (by decide)]; exact hbf1 i hi
        have hB_3 : But [1000, 1004, 1005, 1023, 1024] ka ka_3 := But.trans hB_1 (But.mono hq (by decide))
        refine lv_iload_n hx hb dX3_behind_41 rfl (lv_at hl 2 rfl) ?_
        refine lv_if_ne (tgt := 52) hx hb dX3_behind_42 (by decide) (fun c42 => ?_) (fun c42 => ?_)
        · refine lv_iload_n hx hb dX3_behind_52 rfl (lv_at hl 2 rfl) ?_
          refine lv_iconst (v := 1) hx hb dX3_behind_53 (by decide) ?_
          refine lv_icmp_ne (tgt := 66) hx hb dX3_behind_54 (by decide) (fun c54 => ?_) (fun c54 => ?_)
          · have hw2 : ∃ k : Nat, k < nC (ka 1000) ∧ w - 2 = nI k := by first | assumption | (exfalso; grind)
            obtain ⟨kw, hkw, ekw⟩ := hw2
            have hclw : cl (w - 2) = kw := by rw [ekw]; exact cl_nI (by omega)
            refine lv_aload_n hx hb dX3_behind_66 rfl (lv_at hl 0 rfl) ?_
            refine lv_iload_n hx hb dX3_behind_67 rfl (lv_at hl 2 rfl) ?_
            refine lv_iconst (v := 2) hx hb dX3_behind_68 (by decide) ?_
            refine lv_isub hx hb dX3_behind_69 ?_
            refine r_topv (v := nI kw) ekw ?_
            refine k_pe (v := fullT (ka_3 1000) kw) (r_V (As := [.int (nI kw)]) (rest := []) B hM hL.1 rfl rfl (ok_fullOf hL (c := kw) (by omega)) cal_X3_fullOf q1514 rfl hl.1 (Nat.le_of_ble_eq_true rfl) dX3_behind_70 ⟨Nat.le_of_ble_eq_true rfl, Nat.le_of_ble_eq_true rfl⟩ ⟨Nat.le_of_ble_eq_true rfl, Nat.le_of_ble_eq_true rfl⟩) hM (fun H locs hM => ?_)
            refine r_topv (v := fullT (hoursT kn (ka 1000)) kw) (by rw [hT3]) ?_
            refine lv_topi (fun v_5 ev_5 => ?_)
            refine lv_istore_n (lv' := [(3, .int v_5), (0, .ref y0), (1, .int (nI kn)), (2, .int w)]) hx hb dX3_behind_73 rfl hl (by decide) rfl (fun ls hl => ?_)
            refine lv_aload_n hx hb dX3_behind_74 rfl (lv_at hl 1 rfl) ?_
            refine k_v (r_V (As := []) (rest := []) B hM hL.1 rfl rfl (ok_putsBack hL) cal_X3_putsBack q1669 rfl hl.1 (Nat.le_of_ble_eq_true rfl) dX3_behind_75 ⟨Nat.le_of_ble_eq_true rfl, Nat.le_of_ble_eq_true rfl⟩ ⟨Nat.le_of_ble_eq_true rfl, Nat.le_of_ble_eq_true rfl⟩) hM (fun ka_6 H locs p_7 hM => ?_)
            obtain ⟨hp6, hq⟩ := p_7
            have hT6 : ka_6 1000 = ka 1000 := by rw [hp6, hT3]; exact bk_eq hbf3 (fun i hi => ((hoursT_seq hR kn).tx hi).trans ((fun i _ => rfl) i hi))
            have hbf6 : ∀ i, i < 107 → ka_6 1005 i = ka 1000 i := fun i hi => by rw [hq 1005 (by decide)]; exact hbf3 i hi
            have hB_6 : But [1000, 1004, 1005, 1023, 1024] ka ka_6 := But.trans hB_3 (But.mono hq (by decide))
            refine lv_iload_n hx hb dX3_behind_78 rfl (lv_at hl 0 rfl) ?_
            refine r_iret B hr hM dX3_behind_79 ?_
            constructor
            · rw [ev_5]; simp only [A_behind, sg0, sg1, sg7, sg25, sg26, sg27, sg28, sg29, sg30, sg31, sg33, sg99, hclkn]; rw [if_neg (by grind), if_neg c42, if_neg c54, hclw]
            · exact Rel.back hB_6 hT6 (by decide)
          · refine lv_aload_n hx hb dX3_behind_57 rfl (lv_at hl 0 rfl) ?_
            refine r_getq B hM 0 hL.1 rfl (by decide) rfl rfl (hL.2 0 _ _ rfl).1 q1382 dX3_behind_58 ?_
            refine lv_iconst (v := 5) hx hb dX3_behind_61 (by decide) ?_
            refine r_ild B hM 5 (hL.2 0 _ _ rfl).2 rfl (by decide) (by decide) dX3_behind_62 ?_
            refine r_topv (v := (hoursT kn (ka 1000)) 5) (congrFun hT3 _) ?_
            refine lv_goto (tgt := 73) hx hb dX3_behind_63 (by decide) ?_
            refine lv_topi (fun v_8 ev_8 => ?_)
            refine lv_istore_n (lv' := [(3, .int v_8), (0, .ref y0), (1, .int (nI kn)), (2, .int w)]) hx hb dX3_behind_73 rfl hl (by decide) rfl (fun ls hl => ?_)
            refine lv_aload_n hx hb dX3_behind_74 rfl (lv_at hl 1 rfl) ?_
            refine k_v (r_V (As := []) (rest := []) B hM hL.1 rfl rfl (ok_putsBack hL) cal_X3_putsBack q1669 rfl hl.1 (Nat.le_of_ble_eq_true rfl) dX3_behind_75 ⟨Nat.le_of_ble_eq_true rfl, Nat.le_of_ble_eq_true rfl⟩ ⟨Nat.le_of_ble_eq_true rfl, Nat.le_of_ble_eq_true rfl⟩) hM (fun ka_9 H locs p_10 hM => ?_)
            obtain ⟨hp9, hq⟩ := p_10
            have hT9 : ka_9 1000 = ka 1000 := by rw [hp9, hT3]; exact bk_eq hbf3 (fun i hi => ((hoursT_seq hR kn).tx hi).trans ((fun i _ => rfl) i hi))
            have hbf9 : ∀ i, i < 107 → ka_9 1005 i = ka 1000 i := fun i hi => by rw [hq 1005 (by decide)]; exact hbf3 i hi
            have hB_9 : But [1000, 1004, 1005, 1023, 1024] ka ka_9 := But.trans hB_3 (But.mono hq (by decide))
            refine lv_iload_n hx hb dX3_behind_78 rfl (lv_at hl 0 rfl) ?_
            refine r_iret B hr hM dX3_behind_79 ?_
            constructor
            · rw [ev_8]; simp only [A_behind, sg0, sg1, sg7, sg25, sg26, sg27, sg28, sg29, sg30, sg31, sg33, sg99, hclkn]; rw [if_neg (by grind), if_neg c42, if_pos c54]
            · exact Rel.back hB_9 hT9 (by decide)
        · refine lv_aload_n hx hb dX3_behind_45 rfl (lv_at hl 0 rfl) ?_
          refine k_pe (v := allT (ka_3 1000)) (r_V (As := []) (rest := []) B hM hL.1 rfl rfl (ok_fullOfAll hL (by rw [hT3]; exact ((hoursT_seq hR kn).rok hR))) cal_X3_fullOfAll q1653 rfl hl.1 (Nat.le_of_ble_eq_true rfl) dX3_behind_46 ⟨Nat.le_of_ble_eq_true rfl, Nat.le_of_ble_eq_true rfl⟩ ⟨Nat.le_of_ble_eq_true rfl, Nat.le_of_ble_eq_true rfl⟩) hM (fun H locs hM => ?_)
          refine r_topv (v := allT (hoursT kn (ka 1000))) (by rw [hT3]) ?_
          refine lv_goto (tgt := 73) hx hb dX3_behind_49 (by decide) ?_
          refine lv_topi (fun v_11 ev_11 => ?_)
          refine lv_istore_n (lv' := [(3, .int v_11), (0, .ref y0), (1, .int (nI kn)), (2, .int w)]) hx hb dX3_behind_73 rfl hl (by decide) rfl (fun ls hl => ?_)
          refine lv_aload_n hx hb dX3_behind_74 rfl (lv_at hl 1 rfl) ?_
          refine k_v (r_V (As := []) (rest := []) B hM hL.1 rfl rfl (ok_putsBack hL) cal_X3_putsBack q1669 rfl hl.1 (Nat.le_of_ble_eq_true rfl) dX3_behind_75 ⟨Nat.le_of_ble_eq_true rfl, Nat.le_of_ble_eq_true rfl⟩ ⟨Nat.le_of_ble_eq_true rfl, Nat.le_of_ble_eq_true rfl⟩) hM (fun ka_12 H locs p_13 hM => ?_)
          obtain ⟨hp12, hq⟩ := p_13
          have hT12 : ka_12 1000 = ka 1000 := by rw [hp12, hT3]; exact bk_eq hbf3 (fun i hi => ((hoursT_seq hR kn).tx hi).trans ((fun i _ => rfl) i hi))
          have hbf12 : ∀ i, i < 107 → ka_12 1005 i = ka 1000 i := fun i hi => by rw [hq 1005 (by decide)]; exact hbf3 i hi
          have hB_12 : But [1000, 1004, 1005, 1023, 1024] ka ka_12 := But.trans hB_3 (But.mono hq (by decide))
          refine lv_iload_n hx hb dX3_behind_78 rfl (lv_at hl 0 rfl) ?_
          refine r_iret B hr hM dX3_behind_79 ?_
          constructor
          · rw [ev_11]; simp only [A_behind, sg0, sg1, sg7, sg25, sg26, sg27, sg28, sg29, sg30, sg31, sg33, sg99, hclkn]; rw [if_neg (by grind), if_pos c42]
          · exact Rel.back hB_12 hT12 (by decide)
      · refine lv_aload_n hx hb dX3_behind_19 rfl (lv_at hl 0 rfl) ?_
        refine lv_iload_n hx hb dX3_behind_20 rfl (lv_at hl 2 rfl) ?_
        refine lv_iconst (v := 2) hx hb dX3_behind_21 (by decide) ?_
        refine lv_isub hx hb dX3_behind_22 ?_
        refine k_pb (r_V (As := [.int (w - 2)]) (rest := []) B hM hL.1 rfl rfl (ok_isCellar hL hR (w - 2)) cal_X3_isCellar q1506 rfl hl.1 (Nat.le_of_ble_eq_true rfl) dX3_behind_23 ⟨Nat.le_of_ble_eq_true rfl, Nat.le_of_ble_eq_true rfl⟩ ⟨Nat.le_of_ble_eq_true rfl, Nat.le_of_ble_eq_true rfl⟩) hM (fun H locs b23 hM => ?_) (fun H locs b23 hM => ?_)
        · have iw := (inC_iff (n := nC (ka 1000)) (by omega)).mpr b23
          refine lv_if_ne (tgt := 32) hx hb dX3_behind_26 (by decide) (fun c26 => ?_) (fun cZ => absurd cZ (by decide))
          obtain ⟨kn, hkna, hknb, rfl⟩ := (btw_iff (a := 0) (b := 100) (by decide) (by decide)).mp b4
          have hclkn : cl (nI kn) = kn := cl_nI (by omega)
          refine lv_aload_n hx hb dX3_behind_32 rfl (lv_at hl 0 rfl) ?_
          refine k_v (r_V (As := []) (rest := []) B hM hL.1 rfl rfl (ok_thinks hL) cal_X3_thinks q1665 rfl hl.1 (Nat.le_of_ble_eq_true rfl) dX3_behind_33 ⟨Nat.le_of_ble_eq_true rfl, Nat.le_of_ble_eq_true rfl⟩ ⟨Nat.le_of_ble_eq_true rfl, Nat.le_of_ble_eq_true rfl⟩) hM (fun ka_14 H locs p_15 hM => ?_)
          obtain ⟨ht1, hq⟩ := p_15
          have hT14 : ka_14 1000 = ka 1000 := (hq 1000 (by decide))
          have hbf14 : ∀ i, i < 107 → ka_14 1005 i = ka 1000 i := fun i hi => by rw [ht1]; exact if_pos hi
          have hB_14 : But [1000, 1004, 1005, 1023, 1024] ka ka_14 := But.trans But.refl (But.mono hq (by decide))
          refine lv_aload_n hx hb dX3_behind_36 rfl (lv_at hl 0 rfl) ?_
          refine lv_iload_n hx hb dX3_behind_37 rfl (lv_at hl 1 rfl) ?_
          refine k_v (r_V (As := [.int (nI kn)]) (rest := []) B hM hL.1 rfl rfl (ok_goesOn hL (by rw [hT14]; exact hR) (n := kn) (by omega)) cal_X3_goesOn q1629 rfl hl.1 (Nat.le_of_ble_eq_true rfl) dX3_behind_38 ⟨Nat.le_of_ble_eq_true rfl, Nat.le_of_ble_eq_true rfl⟩ ⟨Nat.le_of_ble_eq_true rfl, Nat.le_of_ble_eq_true rfl⟩) hM (fun ka_16 H locs p_17 hM => ?_)
          obtain ⟨hf16, hq⟩ := p_17
          have hT16 : ka_16 1000 = hoursT kn (ka 1000) := by rw [hf16, hT14]
          have hbf16 : ∀ i, i < 107 → ka_16 1005 i = ka 1000 i := fun i hi => by rw [hq 1005 (by decide)]; exact hbf14 i hi
          have hB_16 : But [1000, 1004, 1005, 1023, 1024] ka ka_16 := But.trans hB_14 (But.mono hq (by decide))
          refine lv_iload_n hx hb dX3_behind_41 rfl (lv_at hl 2 rfl) ?_
          refine lv_if_ne (tgt := 52) hx hb dX3_behind_42 (by decide) (fun c42 => ?_) (fun c42 => ?_)
          · refine lv_iload_n hx hb dX3_behind_52 rfl (lv_at hl 2 rfl) ?_
            refine lv_iconst (v := 1) hx hb dX3_behind_53 (by decide) ?_
            refine lv_icmp_ne (tgt := 66) hx hb dX3_behind_54 (by decide) (fun c54 => ?_) (fun c54 => ?_)
            · have hw2 : ∃ k : Nat, k < nC (ka 1000) ∧ w - 2 = nI k := by first | assumption | (exfalso; grind)
              obtain ⟨kw, hkw, ekw⟩ := hw2
              have hclw : cl (w - 2) = kw := by rw [ekw]; exact cl_nI (by omega)
              refine lv_aload_n hx hb dX3_behind_66 rfl (lv_at hl 0 rfl) ?_
              refine lv_iload_n hx hb dX3_behind_67 rfl (lv_at hl 2 rfl) ?_
              refine lv_iconst (v := 2) hx hb dX3_behind_68 (by decide) ?_
              refine lv_isub hx hb dX3_behind_69 ?_
              refine r_topv (v := nI kw) ekw ?_
              refine k_pe (v := fullT (ka_16 1000) kw) (r_V (As := [.int (nI kw)]) (rest := []) B hM hL.1 rfl rfl (ok_fullOf hL (c := kw) (by omega)) cal_X3_fullOf q1514 rfl hl.1 (Nat.le_of_ble_eq_true rfl) dX3_behind_70 ⟨Nat.le_of_ble_eq_true rfl, Nat.le_of_ble_eq_true rfl⟩ ⟨Nat.le_of_ble_eq_true rfl, Nat.le_of_ble_eq_true rfl⟩) hM (fun H locs hM => ?_)
              refine r_topv (v := fullT (hoursT kn (ka 1000)) kw) (by rw [hT16]) ?_
              refine lv_topi (fun v_18 ev_18 => ?_)
              refine lv_istore_n (lv' := [(3, .int v_18), (0, .ref y0), (1, .int (nI kn)), (2, .int w)]) hx hb dX3_behind_73 rfl hl (by decide) rfl (fun ls hl => ?_)
              refine lv_aload_n hx hb dX3_behind_74 rfl (lv_at hl 1 rfl) ?_
              refine k_v (r_V (As := []) (rest := []) B hM hL.1 rfl rfl (ok_putsBack hL) cal_X3_putsBack q1669 rfl hl.1 (Nat.le_of_ble_eq_true rfl) dX3_behind_75 ⟨Nat.le_of_ble_eq_true rfl, Nat.le_of_ble_eq_true rfl⟩ ⟨Nat.le_of_ble_eq_true rfl, Nat.le_of_ble_eq_true rfl⟩) hM (fun ka_19 H locs p_20 hM => ?_)
              obtain ⟨hp19, hq⟩ := p_20
              have hT19 : ka_19 1000 = ka 1000 := by rw [hp19, hT16]; exact bk_eq hbf16 (fun i hi => ((hoursT_seq hR kn).tx hi).trans ((fun i _ => rfl) i hi))
              have hbf19 : ∀ i, i < 107 → ka_19 1005 i = ka 1000 i := fun i hi => by rw [hq 1005 (by decide)]; exact hbf16 i hi
              have hB_19 : But [1000, 1004, 1005, 1023, 1024] ka ka_19 := But.trans hB_16 (But.mono hq (by decide))
              refine lv_iload_n hx hb dX3_behind_78 rfl (lv_at hl 0 rfl) ?_
              refine r_iret B hr hM dX3_behind_79 ?_
              constructor
              · rw [ev_18]; simp only [A_behind, sg0, sg1, sg7, sg25, sg26, sg27, sg28, sg29, sg30, sg31, sg33, sg99, hclkn]; rw [if_neg (by grind), if_neg c42, if_neg c54, hclw]
              · exact Rel.back hB_19 hT19 (by decide)
            · refine lv_aload_n hx hb dX3_behind_57 rfl (lv_at hl 0 rfl) ?_
              refine r_getq B hM 0 hL.1 rfl (by decide) rfl rfl (hL.2 0 _ _ rfl).1 q1382 dX3_behind_58 ?_
              refine lv_iconst (v := 5) hx hb dX3_behind_61 (by decide) ?_
              refine r_ild B hM 5 (hL.2 0 _ _ rfl).2 rfl (by decide) (by decide) dX3_behind_62 ?_
              refine r_topv (v := (hoursT kn (ka 1000)) 5) (congrFun hT16 _) ?_
              refine lv_goto (tgt := 73) hx hb dX3_behind_63 (by decide) ?_
              refine lv_topi (fun v_21 ev_21 => ?_)
              refine lv_istore_n (lv' := [(3, .int v_21), (0, .ref y0), (1, .int (nI kn)), (2, .int w)]) hx hb dX3_behind_73 rfl hl (by decide) rfl (fun ls hl => ?_)
              refine lv_aload_n hx hb dX3_behind_74 rfl (lv_at hl 1 rfl) ?_
              refine k_v (r_V (As := []) (rest := []) B hM hL.1 rfl rfl (ok_putsBack hL) cal_X3_putsBack q1669 rfl hl.1 (Nat.le_of_ble_eq_true rfl) dX3_behind_75 ⟨Nat.le_of_ble_eq_true rfl, Nat.le_of_ble_eq_true rfl⟩ ⟨Nat.le_of_ble_eq_true rfl, Nat.le_of_ble_eq_true rfl⟩) hM (fun ka_22 H locs p_23 hM => ?_)
              obtain ⟨hp22, hq⟩ := p_23
              have hT22 : ka_22 1000 = ka 1000 := by rw [hp22, hT16]; exact bk_eq hbf16 (fun i hi => ((hoursT_seq hR kn).tx hi).trans ((fun i _ => rfl) i hi))
              have hbf22 : ∀ i, i < 107 → ka_22 1005 i = ka 1000 i := fun i hi => by rw [hq 1005 (by decide)]; exact hbf16 i hi
              have hB_22 : But [1000, 1004, 1005, 1023, 1024] ka ka_22 := But.trans hB_16 (But.mono hq (by decide))
              refine lv_iload_n hx hb dX3_behind_78 rfl (lv_at hl 0 rfl) ?_
              refine r_iret B hr hM dX3_behind_79 ?_
              constructor
              · rw [ev_21]; simp only [A_behind, sg0, sg1, sg7, sg25, sg26, sg27, sg28, sg29, sg30, sg31, sg33, sg99, hclkn]; rw [if_neg (by grind), if_neg c42, if_pos c54]
              · exact Rel.back hB_22 hT22 (by decide)
          · refine lv_aload_n hx hb dX3_behind_45 rfl (lv_at hl 0 rfl) ?_
            refine k_pe (v := allT (ka_16 1000)) (r_V (As := []) (rest := []) B hM hL.1 rfl rfl (ok_fullOfAll hL (by rw [hT16]; exact ((hoursT_seq hR kn).rok hR))) cal_X3_fullOfAll q1653 rfl hl.1 (Nat.le_of_ble_eq_true rfl) dX3_behind_46 ⟨Nat.le_of_ble_eq_true rfl, Nat.le_of_ble_eq_true rfl⟩ ⟨Nat.le_of_ble_eq_true rfl, Nat.le_of_ble_eq_true rfl⟩) hM (fun H locs hM => ?_)
            refine r_topv (v := allT (hoursT kn (ka 1000))) (by rw [hT16]) ?_
            refine lv_goto (tgt := 73) hx hb dX3_behind_49 (by decide) ?_
            refine lv_topi (fun v_24 ev_24 => ?_)
            refine lv_istore_n (lv' := [(3, .int v_24), (0, .ref y0), (1, .int (nI kn)), (2, .int w)]) hx hb dX3_behind_73 rfl hl (by decide) rfl (fun ls hl => ?_)
            refine lv_aload_n hx hb dX3_behind_74 rfl (lv_at hl 1 rfl) ?_
            refine k_v (r_V (As := []) (rest := []) B hM hL.1 rfl rfl (ok_putsBack hL) cal_X3_putsBack q1669 rfl hl.1 (Nat.le_of_ble_eq_true rfl) dX3_behind_75 ⟨Nat.le_of_ble_eq_true rfl, Nat.le_of_ble_eq_true rfl⟩ ⟨Nat.le_of_ble_eq_true rfl, Nat.le_of_ble_eq_true rfl⟩) hM (fun ka_25 H locs p_26 hM => ?_)
            obtain ⟨hp25, hq⟩ := p_26
            have hT25 : ka_25 1000 = ka 1000 := by rw [hp25, hT16]; exact bk_eq hbf16 (fun i hi => ((hoursT_seq hR kn).tx hi).trans ((fun i _ => rfl) i hi))
            have hbf25 : ∀ i, i < 107 → ka_25 1005 i = ka 1000 i := fun i hi => by rw [hq 1005 (by decide)]; exact hbf16 i hi
            have hB_25 : But [1000, 1004, 1005, 1023, 1024] ka ka_25 := But.trans hB_16 (But.mono hq (by decide))
            refine lv_iload_n hx hb dX3_behind_78 rfl (lv_at hl 0 rfl) ?_
            refine r_iret B hr hM dX3_behind_79 ?_
            constructor
            · rw [ev_24]; simp only [A_behind, sg0, sg1, sg7, sg25, sg26, sg27, sg28, sg29, sg30, sg31, sg33, sg99, hclkn]; rw [if_neg (by grind), if_pos c42]
            · exact Rel.back hB_25 hT25 (by decide)
        · have iw := mt (inC_iff (n := nC (ka 1000)) (by omega)).mp b23
          refine lv_if_ne (tgt := 32) hx hb dX3_behind_26 (by decide) (fun cZ => absurd (by decide) cZ) (fun c26 => ?_)
          refine lv_ldc hx hb B.2.2.2.1 (B.ts _ q1496) dX3_behind_29 ?_
          refine r_iret B hr hM dX3_behind_31 ?_
          constructor
          · simp only [A_behind, sg0, sg1, sg7, sg25, sg26, sg27, sg28, sg29, sg30, sg31, sg33, sg99] <;> grind
          · exact Rel.refl
  · refine lv_if_eq (tgt := 29) hx hb dX3_behind_7 (by decide) (fun c7 => ?_) (fun cZ => absurd (by decide) cZ)
    refine lv_ldc hx hb B.2.2.2.1 (B.ts _ q1496) dX3_behind_29 ?_
    refine r_iret B hr hM dX3_behind_31 ?_
    constructor
    · simp only [A_behind, sg0, sg1, sg7, sg25, sg26, sg27, sg28, sg29, sg30, sg31, sg33, sg99] <;> grind
    · exact Rel.refl
set_option maxHeartbeats 4000000 in
theorem ok_taste (hL : LayM th rh y0 ay) (hR : Rok (ka 1000)) (c kk n : Int32) : Met l yX3_taste (ws_ yX3_taste cX3_taste 5 (some .int)) (RM 10 0 0) (Pc_ G [.ref y0, .int c, .int kk, .int n] th rh ph ka) (Qi G th rh ph (fun r ka' => r = A_taste (sg ka) c kk n ∧ Rel (sg ka) (sg ka'))) 0 0 (frG G) := by
  refine m_of (by decide) (Nat.le_of_ble_eq_true rfl) ?_
  intro p_ e_ s_ m_ below_ meth_ c_ B hr hnm ls hl hM
  have hx := B.1
  have hb := B.2.1
  have hM := hM
  have h8 := hR.1.2
  have h13 := hR.2.1.2
  have h14 := hR.2.2.1.2
  refine lv_aload_n hx hb dX3_taste_0 rfl (lv_at hl 0 rfl) ?_
  refine lv_iload_n hx hb dX3_taste_1 rfl (lv_at hl 1 rfl) ?_
  refine k_pb (r_V (As := [.int c]) (rest := []) B hM hL.1 rfl rfl (ok_isCellar hL hR c) cal_X3_isCellar q1506 rfl hl.1 (Nat.le_of_ble_eq_true rfl) dX3_taste_2 ⟨Nat.le_of_ble_eq_true rfl, Nat.le_of_ble_eq_true rfl⟩ ⟨Nat.le_of_ble_eq_true rfl, Nat.le_of_ble_eq_true rfl⟩) hM (fun H locs b2 hM => ?_) (fun H locs b2 hM => ?_)
  · obtain ⟨kc, hkc, rfl⟩ := b2
    have hinkc : inC (nI kc) (nC (ka 1000)) := (inC_iff (by omega)).mpr ⟨kc, hkc, rfl⟩
    have hclkc : cl (nI kc) = kc := cl_nI (by omega)
    refine lv_if_eq (tgt := 27) hx hb dX3_taste_5 (by decide) (fun cZ => absurd cZ (by decide)) (fun c5 => ?_)
    refine lv_iload_n hx hb dX3_taste_8 rfl (lv_at hl 2 rfl) ?_
    refine lv_iconst (v := 0) hx hb dX3_taste_9 (by decide) ?_
    refine lv_iconst (v := 2) hx hb dX3_taste_10 (by decide) ?_
    refine k_pb (r_S (As := [.int kk, .int 0, .int 2]) (rest := []) B hM (ok_in kk 0 2) cal_X3_in q1493 rfl hl.1 (Nat.le_of_ble_eq_true rfl) dX3_taste_11 ⟨Nat.le_of_ble_eq_true rfl, Nat.le_of_ble_eq_true rfl⟩ ⟨Nat.le_of_ble_eq_true rfl, Nat.le_of_ble_eq_true rfl⟩) hM (fun H locs b11 hM => ?_) (fun H locs b11 hM => ?_)
    · refine lv_if_eq (tgt := 27) hx hb dX3_taste_14 (by decide) (fun cZ => absurd cZ (by decide)) (fun c14 => ?_)
      refine lv_iload_n hx hb dX3_taste_17 rfl (lv_at hl 3 rfl) ?_
      refine lv_iconst (v := 0) hx hb dX3_taste_18 (by decide) ?_
      refine lv_bipush (v := 100) hx hb dX3_taste_19 (by decide) ?_
      refine k_pb (r_S (As := [.int n, .int 0, .int 100]) (rest := []) B hM (ok_in n 0 100) cal_X3_in q1493 rfl hl.1 (Nat.le_of_ble_eq_true rfl) dX3_taste_21 ⟨Nat.le_of_ble_eq_true rfl, Nat.le_of_ble_eq_true rfl⟩ ⟨Nat.le_of_ble_eq_true rfl, Nat.le_of_ble_eq_true rfl⟩) hM (fun H locs b21 hM => ?_) (fun H locs b21 hM => ?_)
      · refine lv_if_ne (tgt := 30) hx hb dX3_taste_24 (by decide) (fun c24 => ?_) (fun cZ => absurd cZ (by decide))
        obtain ⟨ks, hksa, hksb, rfl⟩ := (btw_iff (a := 0) (b := 2) (by decide) (by decide)).mp b11
        have hclks : cl (nI ks) = ks := cl_nI (by omega)
        obtain ⟨kn, hkna, hknb, rfl⟩ := (btw_iff (a := 0) (b := 100) (by decide) (by decide)).mp b21
        have hclkn : cl (nI kn) = kn := cl_nI (by omega)
        refine lv_aload_n hx hb dX3_taste_30 rfl (lv_at hl 0 rfl) ?_
        refine k_v (r_V (As := []) (rest := []) B hM hL.1 rfl rfl (ok_thinks hL) cal_X3_thinks q1665 rfl hl.1 (Nat.le_of_ble_eq_true rfl) dX3_taste_31 ⟨Nat.le_of_ble_eq_true rfl, Nat.le_of_ble_eq_true rfl⟩ ⟨Nat.le_of_ble_eq_true rfl, Nat.le_of_ble_eq_true rfl⟩) hM (fun ka_1 H locs p_2 hM => ?_)
        obtain ⟨ht1, hq⟩ := p_2
        have hT1 : ka_1 1000 = ka 1000 := (hq 1000 (by decide))
        have hbf1 : ∀ i, i < 107 → ka_1 1005 i = ka 1000 i := fun i hi => by rw [ht1]; exact if_pos hi
        have hB_1 : But [1000, 1004, 1005, 1023, 1024] ka ka_1 := But.trans But.refl (But.mono hq (by decide))
        refine lv_aload_n hx hb dX3_taste_34 rfl (lv_at hl 0 rfl) ?_
        refine lv_iload_n hx hb dX3_taste_35 rfl (lv_at hl 3 rfl) ?_
        refine k_v (r_V (As := [.int (nI kn)]) (rest := []) B hM hL.1 rfl rfl (ok_goesOn hL (by rw [hT1]; exact hR) (n := kn) (by omega)) cal_X3_goesOn q1629 rfl hl.1 (Nat.le_of_ble_eq_true rfl) dX3_taste_36 ⟨Nat.le_of_ble_eq_true rfl, Nat.le_of_ble_eq_true rfl⟩ ⟨Nat.le_of_ble_eq_true rfl, Nat.le_of_ble_eq_true rfl⟩) hM (fun ka_3 H locs p_4 hM => ?_)
        obtain ⟨hf3, hq⟩ := p_4
        have hT3 : ka_3 1000 = hoursT kn (ka 1000) := by rw [hf3, hT1]
        have hbf3 : ∀ i, i < 107 → ka_3 1005 i = ka 1000 i := fun i hi => by rw [hq 1005 (by decide)]; exact hbf1 i hi
        have hB_3 : But [1000, 1004, 1005, 1023, 1024] ka ka_3 := But.trans hB_1 (But.mono hq (by decide))
        refine lv_aload_n hx hb dX3_taste_39 rfl (lv_at hl 0 rfl) ?_
        refine lv_iload_n hx hb dX3_taste_40 rfl (lv_at hl 1 rfl) ?_
        refine lv_iconst (v := 3) hx hb dX3_taste_41 (by decide) ?_
        refine lv_iload_n hx hb dX3_taste_42 rfl (lv_at hl 2 rfl) ?_
        refine lv_iadd hx hb dX3_taste_43 ?_
        refine r_topv (v := nI (3 + ks)) (by simp only [nA, nL]) ?_
        refine k_pe (v := ka_3 1000 (7 + 6 * kc + (3 + ks))) (r_V (As := [.int (nI kc), .int (nI (3 + ks))]) (rest := []) B hM hL.1 rfl rfl (ok_of hL (c := kc) (w := 3 + ks) (by omega) (by omega)) cal_X3_of q1510 rfl hl.1 (Nat.le_of_ble_eq_true rfl) dX3_taste_44 ⟨Nat.le_of_ble_eq_true rfl, Nat.le_of_ble_eq_true rfl⟩ ⟨Nat.le_of_ble_eq_true rfl, Nat.le_of_ble_eq_true rfl⟩) hM (fun H locs hM => ?_)
        refine r_topv (v := hoursT kn (ka 1000) (7 + 6 * kc + (3 + ks))) (by rw [hT3]) ?_
        refine lv_topi (fun v_5 ev_5 => ?_)
        refine lv_istore (lv' := [(4, .int v_5), (0, .ref y0), (1, .int (nI kc)), (2, .int (nI ks)), (3, .int (nI kn))]) hx hb dX3_taste_47 hl (by decide) rfl (fun ls hl => ?_)
        refine lv_aload_n hx hb dX3_taste_49 rfl (lv_at hl 1 rfl) ?_
        refine k_v (r_V (As := []) (rest := []) B hM hL.1 rfl rfl (ok_putsBack hL) cal_X3_putsBack q1669 rfl hl.1 (Nat.le_of_ble_eq_true rfl) dX3_taste_50 ⟨Nat.le_of_ble_eq_true rfl, Nat.le_of_ble_eq_true rfl⟩ ⟨Nat.le_of_ble_eq_true rfl, Nat.le_of_ble_eq_true rfl⟩) hM (fun ka_6 H locs p_7 hM => ?_)
        obtain ⟨hp6, hq⟩ := p_7
        have hT6 : ka_6 1000 = ka 1000 := by rw [hp6, hT3]; exact bk_eq hbf3 (fun i hi => ((hoursT_seq hR kn).tx hi).trans ((fun i _ => rfl) i hi))
        have hbf6 : ∀ i, i < 107 → ka_6 1005 i = ka 1000 i := fun i hi => by rw [hq 1005 (by decide)]; exact hbf3 i hi
        have hB_6 : But [1000, 1004, 1005, 1023, 1024] ka ka_6 := But.trans hB_3 (But.mono hq (by decide))
        refine lv_iload hx hb dX3_taste_53 (lv_at hl 0 rfl) ?_
        refine r_iret B hr hM dX3_taste_55 ?_
        constructor
        · rw [ev_5]; simp only [A_taste, sg0, sg1, sg7, sg25, sg26, sg27, sg28, sg29, sg30, sg31, sg33, sg99, hclkc, hclks, hclkn]; rw [if_neg (by grind)]
        · exact Rel.back hB_6 hT6 (by decide)
      · refine lv_if_ne (tgt := 30) hx hb dX3_taste_24 (by decide) (fun cZ => absurd (by decide) cZ) (fun c24 => ?_)
        refine lv_ldc hx hb B.2.2.2.1 (B.ts _ q1496) dX3_taste_27 ?_
        refine r_iret B hr hM dX3_taste_29 ?_
        constructor
        · simp only [A_taste, sg0, sg1, sg7, sg25, sg26, sg27, sg28, sg29, sg30, sg31, sg33, sg99, hclkc] <;> grind
        · exact Rel.refl
    · refine lv_if_eq (tgt := 27) hx hb dX3_taste_14 (by decide) (fun c14 => ?_) (fun cZ => absurd (by decide) cZ)
      refine lv_ldc hx hb B.2.2.2.1 (B.ts _ q1496) dX3_taste_27 ?_
      refine r_iret B hr hM dX3_taste_29 ?_
      constructor
      · simp only [A_taste, sg0, sg1, sg7, sg25, sg26, sg27, sg28, sg29, sg30, sg31, sg33, sg99, hclkc] <;> grind
      · exact Rel.refl
  · refine lv_if_eq (tgt := 27) hx hb dX3_taste_5 (by decide) (fun c5 => ?_) (fun cZ => absurd (by decide) cZ)
    refine lv_ldc hx hb B.2.2.2.1 (B.ts _ q1496) dX3_taste_27 ?_
    refine r_iret B hr hM dX3_taste_29 ?_
    have ib2 := mt (inC_iff (n := nC (ka 1000)) (by omega)).mp b2
    constructor
    · simp only [A_taste, sg0, sg1, sg7, sg25, sg26, sg27, sg28, sg29, sg30, sg31, sg33, sg99] <;> grind
    · exact Rel.refl
set_option maxHeartbeats 4000000 in
theorem ok_rests (hL : LayM th rh y0 ay) (hR : Rok (ka 1000))  : Met l yX3_rests (ws_ yX3_rests cX3_rests 2 (some .int)) (RM 9 0 0) (Pc_ G [.ref y0] th rh ph ka) (Qi G th rh ph (fun r ka' => r = A_rests (sg ka)  ∧ Rel (sg ka) (sg ka'))) 0 0 (frG G) := by
  refine m_of (by decide) (Nat.le_of_ble_eq_true rfl) ?_
  intro p_ e_ s_ m_ below_ meth_ c_ B hr hnm ls hl hM
  have hx := B.1
  have hb := B.2.1
  have hM := hM
  have h8 := hR.1.2
  have h13 := hR.2.1.2
  have h14 := hR.2.2.1.2
  have loop : ∀ (fu_loop : Nat) (i : Nat) (kb : Ka), 302 - i < fu_loop → (i ≤ 301) → (restT (ka 1000) 301 0 = restT (ka 1000) (301 - i) i) → (kb 1000 = hoursT i (ka 1000)) → (∀ j, j < 107 → kb 1005 j = ka 1000 j) → (But [1000, 1004, 1005, 1023, 1024] ka kb) → ∀ (ls : Array Slot) (H : Heap) (locs : List Loc), lv_has ls 2 [(0, .ref y0), (1, .int (nI i))] → Md G th rh ph kb H locs → W p_ l e_ (RM 9 0 0) s_ m_ ([.ref y0].toArray) below_ meth_ c_ H locs 0 0 (MQ below_ (Qi G th rh ph (fun r ka' => r = A_rests (sg ka)  ∧ Rel (sg ka) (sg ka'))) ([.ref y0].toArray) s_ 0 0 (frG G)) (F0 m_ 6 ls []) := by
    intro fu_loop
    induction fu_loop with
    | zero => intro i kb hfu; exact absurd hfu (Nat.not_lt_zero _)
    | succ fu_loop ih_loop =>
      intro i kb hfu_loop hi hr0 hT hbf hbu ls H locs hl hM
      refine lv_iload_n hx hb dX3_rests_6 rfl (lv_at hl 1 rfl) ?_
      refine lv_sipush (v := 300) hx hb dX3_rests_7 (by decide) ?_
      refine lv_icmp_gt (tgt := 30) hx hb dX3_rests_10 (by decide) (fun c10 => ?_) (fun c10 => ?_)
      · have n10 : 300 < i := ntLt rfl rfl (by omega) (by omega) c10
        refine lv_aload_n hx hb dX3_rests_30 rfl (lv_at hl 0 rfl) ?_
        refine k_v (r_V (As := []) (rest := []) B hM hL.1 rfl rfl (ok_putsBack hL) cal_X3_putsBack q1669 rfl hl.1 (Nat.le_of_ble_eq_true rfl) dX3_rests_31 ⟨Nat.le_of_ble_eq_true rfl, Nat.le_of_ble_eq_true rfl⟩ ⟨Nat.le_of_ble_eq_true rfl, Nat.le_of_ble_eq_true rfl⟩) hM (fun ka_1 H locs p_2 hM => ?_)
        obtain ⟨hp1, hq⟩ := p_2
        have hT1 : ka_1 1000 = ka 1000 := by rw [hp1, hT]; exact bk_eq hbf (fun j hj => (hoursT_seq hR i).tx hj)
        have hbf1 : ∀ i, i < 107 → ka_1 1005 i = ka 1000 i := fun i hi => by rw [hq 1005 (by decide)]; exact hbf i hi
        have hB_1 : But [1000, 1004, 1005, 1023, 1024] ka ka_1 := But.trans hbu (But.mono hq (by decide))
        refine lv_iload_n hx hb dX3_rests_34 rfl (lv_at hl 1 rfl) ?_
        refine lv_sipush (v := 300) hx hb dX3_rests_35 (by decide) ?_
        refine lv_icmp_le (tgt := 46) hx hb dX3_rests_38 (by decide) (fun cZ => absurd cZ (by rw [i32_le, nI_toInt (by omega)]; show ¬ (i : Int) ≤ 300; omega)) (fun c38 => ?_)
        refine lv_ldc hx hb B.2.2.2.1 (B.ts _ q1681) dX3_rests_41 ?_
        refine lv_goto (tgt := 47) hx hb dX3_rests_43 (by decide) ?_
        refine r_iret B hr hM dX3_rests_47 ?_
        constructor
        · show cNONE = restT (ka 1000) 301 0; rw [hr0, show 301 - i = 0 by omega]; rfl
        · exact Rel.back hB_1 hT1 (by decide)
      · have n10 : i ≤ 300 := ntNlt rfl rfl (by omega) (by omega) c10
        refine lv_aload_n hx hb dX3_rests_13 rfl (lv_at hl 0 rfl) ?_
        refine k_i (r_V (As := []) (rest := []) B hM hL.1 rfl rfl (ok_running hL (by rw [hT]; exact ((hoursT_seq hR i).rok hR))) cal_X3_running q1657 rfl hl.1 (Nat.le_of_ble_eq_true rfl) dX3_rests_14 ⟨Nat.le_of_ble_eq_true rfl, Nat.le_of_ble_eq_true rfl⟩ ⟨Nat.le_of_ble_eq_true rfl, Nat.le_of_ble_eq_true rfl⟩) hM (fun r_3 ka_4 H locs p_5 hM => ?_)
        obtain ⟨hr1, hq⟩ := p_5
        rw [hT] at hr1
        subst hr1
        have hT4 : ka_4 1000 = hoursT i (ka 1000) := (hq 1000 (by decide)).trans hT
        have hbf4 : ∀ i, i < 107 → ka_4 1005 i = ka 1000 i := fun i hi => by rw [hq 1005 (by decide)]; exact hbf i hi
        have hB_4 : But [1000, 1004, 1005, 1023, 1024] ka ka_4 := But.trans hbu (But.mono hq (by decide))
        refine lv_if_le (tgt := 30) hx hb dX3_rests_17 (by decide) (fun c17 => ?_) (fun c17 => ?_)
        · refine lv_aload_n hx hb dX3_rests_30 rfl (lv_at hl 0 rfl) ?_
          refine k_v (r_V (As := []) (rest := []) B hM hL.1 rfl rfl (ok_putsBack hL) cal_X3_putsBack q1669 rfl hl.1 (Nat.le_of_ble_eq_true rfl) dX3_rests_31 ⟨Nat.le_of_ble_eq_true rfl, Nat.le_of_ble_eq_true rfl⟩ ⟨Nat.le_of_ble_eq_true rfl, Nat.le_of_ble_eq_true rfl⟩) hM (fun ka_6 H locs p_7 hM => ?_)
          obtain ⟨hp6, hq⟩ := p_7
          have hT6 : ka_6 1000 = ka 1000 := by rw [hp6, hT4]; exact bk_eq hbf4 (fun j hj => (hoursT_seq hR i).tx hj)
          have hbf6 : ∀ i, i < 107 → ka_6 1005 i = ka 1000 i := fun i hi => by rw [hq 1005 (by decide)]; exact hbf4 i hi
          have hB_6 : But [1000, 1004, 1005, 1023, 1024] ka ka_6 := But.trans hB_4 (But.mono hq (by decide))
          refine lv_iload_n hx hb dX3_rests_34 rfl (lv_at hl 1 rfl) ?_
          refine lv_sipush (v := 300) hx hb dX3_rests_35 (by decide) ?_
          refine lv_icmp_le (tgt := 46) hx hb dX3_rests_38 (by decide) (fun c38 => ?_) (fun cZ => absurd (by rw [i32_le, nI_toInt (by omega)]; show (i : Int) ≤ 300; omega) cZ)
          refine lv_iload_n hx hb dX3_rests_46 rfl (lv_at hl 1 rfl) ?_
          refine r_iret B hr hM dX3_rests_47 ?_
          constructor
          · show nI i = restT (ka 1000) 301 0; rw [hr0, show 301 - i = (300 - i) + 1 by omega, restT, if_neg (i_nlt.mpr c17)]
          · exact Rel.back hB_6 hT6 (by decide)
        · refine lv_aload_n hx hb dX3_rests_20 rfl (lv_at hl 0 rfl) ?_
          refine k_v (r_V (As := []) (rest := []) B hM hL.1 rfl rfl (ok_hour hL (by rw [hT4]; exact ((hoursT_seq hR i).rok hR))) cal_X3_hour q1633 rfl hl.1 (Nat.le_of_ble_eq_true rfl) dX3_rests_21 ⟨Nat.le_of_ble_eq_true rfl, Nat.le_of_ble_eq_true rfl⟩ ⟨Nat.le_of_ble_eq_true rfl, Nat.le_of_ble_eq_true rfl⟩) hM (fun ka_8 H locs p_9 hM => ?_)
          obtain ⟨hf8, hq⟩ := p_9
          have hT8 : ka_8 1000 = hourT (hoursT i (ka 1000)) := by rw [hf8, hT4]
          have hbf8 : ∀ i, i < 107 → ka_8 1005 i = ka 1000 i := fun i hi => by rw [hq 1005 (by decide)]; exact hbf4 i hi
          have hB_8 : But [1000, 1004, 1005, 1023, 1024] ka ka_8 := But.trans hB_4 (But.mono hq (by decide))
          refine lv_iinc (v := nI (i + 1)) (lv' := [(1, .int (nI (i + 1))), (0, .ref y0)]) hx hb dX3_rests_24 hl (k := 1) rfl (nI_1 _) (by decide) rfl (fun ls hl => ?_)
          refine lv_goto (tgt := 6) hx hb dX3_rests_27 (by decide) ?_
          exact ih_loop (i + 1) ka_8 (by omega) (by omega) (by rw [hr0, show 301 - i = (301 - (i + 1)) + 1 by omega, restT, if_pos (i_nle.mp c17)]) hT8 hbf8 hB_8 _ _ _ (lv_sub hl [1, 0] rfl) hM
  refine lv_aload_n hx hb dX3_rests_0 rfl (lv_at hl 0 rfl) ?_
  refine k_v (r_V (As := []) (rest := []) B hM hL.1 rfl rfl (ok_thinks hL) cal_X3_thinks q1665 rfl hl.1 (Nat.le_of_ble_eq_true rfl) dX3_rests_1 ⟨Nat.le_of_ble_eq_true rfl, Nat.le_of_ble_eq_true rfl⟩ ⟨Nat.le_of_ble_eq_true rfl, Nat.le_of_ble_eq_true rfl⟩) hM (fun ka_10 H locs p_11 hM => ?_)
  obtain ⟨ht1, hq⟩ := p_11
  have hT10 : ka_10 1000 = ka 1000 := (hq 1000 (by decide))
  have hbf10 : ∀ i, i < 107 → ka_10 1005 i = ka 1000 i := fun i hi => by rw [ht1]; exact if_pos hi
  have hB_10 : But [1000, 1004, 1005, 1023, 1024] ka ka_10 := But.trans But.refl (But.mono hq (by decide))
  refine lv_iconst (v := 0) hx hb dX3_rests_4 (by decide) ?_
  refine lv_istore_n (lv' := [(1, .int 0), (0, .ref y0)]) hx hb dX3_rests_5 rfl hl (by decide) rfl (fun ls hl => ?_)
  exact loop 303 0 ka_10 (by omega) (by omega) rfl hT10 hbf10 hB_10 _ _ _ (lv_sub hl [1, 0] rfl) hM
set_option maxHeartbeats 4000000 in
theorem ok_othersBehind (hL : LayM th rh y0 ay) (hR : Rok (ka 1000)) {c n : Nat} (hc : c < 8) (hn : n < 2 ^ 31) : Met l yX3_othersBehind (ws_ yX3_othersBehind cX3_othersBehind 4 (some .int)) (RM 10 0 0) (Pc_ G [.ref y0, .int (nI c), .int (nI n)] th rh ph ka) (Qi G th rh ph (fun r ka' => r = otT (ka 1000) c n ∧ ka' 1000 = bkT (ka 1005) (ka 1000) ∧ But [1000, 1004, 1023, 1024] ka ka')) 0 0 (frG G) := by
  refine m_of (by decide) (Nat.le_of_ble_eq_true rfl) ?_
  intro p_ e_ s_ m_ below_ meth_ c_ B hr hnm ls hl hM
  have hx := B.1
  have hb := B.2.1
  have hM := hM
  have h8 := hR.1.2
  have h13 := hR.2.1.2
  have h14 := hR.2.2.1.2
  refine lv_aload_n hx hb dX3_othersBehind_0 rfl (lv_at hl 0 rfl) ?_
  refine lv_iload_n hx hb dX3_othersBehind_1 rfl (lv_at hl 2 rfl) ?_
  refine k_v (r_V (As := [.int (nI n)]) (rest := []) B hM hL.1 rfl rfl (ok_goesOn hL hR (n := n) hn) cal_X3_goesOn q1629 rfl hl.1 (Nat.le_of_ble_eq_true rfl) dX3_othersBehind_2 ⟨Nat.le_of_ble_eq_true rfl, Nat.le_of_ble_eq_true rfl⟩ ⟨Nat.le_of_ble_eq_true rfl, Nat.le_of_ble_eq_true rfl⟩) hM (fun ka_1 H locs p_2 hM => ?_)
  obtain ⟨hT1, hq1⟩ := p_2
  have hB_1 : But [1000, 1004, 1023, 1024] ka ka_1 := But.trans But.refl (But.mono hq1 (by decide))
  refine lv_aload_n hx hb dX3_othersBehind_5 rfl (lv_at hl 0 rfl) ?_
  refine k_pe (v := allT (ka_1 1000)) (r_V (As := []) (rest := []) B hM hL.1 rfl rfl (ok_fullOfAll hL (by rw [hT1]; exact ((hoursT_seq hR n).rok hR))) cal_X3_fullOfAll q1653 rfl hl.1 (Nat.le_of_ble_eq_true rfl) dX3_othersBehind_6 ⟨Nat.le_of_ble_eq_true rfl, Nat.le_of_ble_eq_true rfl⟩ ⟨Nat.le_of_ble_eq_true rfl, Nat.le_of_ble_eq_true rfl⟩) hM (fun H locs hM => ?_)
  refine r_topv (v := allT (hoursT n (ka 1000))) (by rw [hT1]) ?_
  refine lv_aload_n hx hb dX3_othersBehind_9 rfl (lv_at hl 0 rfl) ?_
  refine lv_iload_n hx hb dX3_othersBehind_10 rfl (lv_at hl 1 rfl) ?_
  refine k_pe (v := fullT (ka_1 1000) c) (r_V (As := [.int (nI c)]) (rest := [.int (allT (hoursT n (ka 1000)))]) B hM hL.1 rfl rfl (ok_fullOf hL (c := c) (by omega)) cal_X3_fullOf q1514 rfl hl.1 (Nat.le_of_ble_eq_true rfl) dX3_othersBehind_11 ⟨Nat.le_of_ble_eq_true rfl, Nat.le_of_ble_eq_true rfl⟩ ⟨Nat.le_of_ble_eq_true rfl, Nat.le_of_ble_eq_true rfl⟩) hM (fun H locs hM => ?_)
  refine r_topv (v := fullT (hoursT n (ka 1000)) c) (by rw [hT1]) ?_
  refine lv_isub hx hb dX3_othersBehind_14 ?_
  refine lv_topi (fun v_3 ev_3 => ?_)
  refine lv_istore_n (lv' := [(3, .int v_3), (0, .ref y0), (1, .int (nI c)), (2, .int (nI n))]) hx hb dX3_othersBehind_15 rfl hl (by decide) rfl (fun ls hl => ?_)
  refine lv_aload_n hx hb dX3_othersBehind_16 rfl (lv_at hl 1 rfl) ?_
  refine k_v (r_V (As := []) (rest := []) B hM hL.1 rfl rfl (ok_putsBack hL) cal_X3_putsBack q1669 rfl hl.1 (Nat.le_of_ble_eq_true rfl) dX3_othersBehind_17 ⟨Nat.le_of_ble_eq_true rfl, Nat.le_of_ble_eq_true rfl⟩ ⟨Nat.le_of_ble_eq_true rfl, Nat.le_of_ble_eq_true rfl⟩) hM (fun ka_4 H locs p_5 hM => ?_)
  obtain ⟨hpb, hq⟩ := p_5
  have hB_4 : But [1000, 1004, 1023, 1024] ka ka_4 := But.trans hB_1 (But.mono hq (by decide))
  refine lv_iload_n hx hb dX3_othersBehind_20 rfl (lv_at hl 0 rfl) ?_
  refine r_iret B hr hM dX3_othersBehind_21 ?_
  refine ⟨ev_3, ?_, hB_4⟩
  rw [hpb, hT1, hq1 1005 (by decide)]; exact (hoursT_seq hR n).bk
end
