/-! the model: the best of what is thought -/
set_option maxRecDepth 100000
section
variable {l : Launch} {G : GG} {th : Th} {rh : Rh} {ph : Ph} {ka : Ka} {y0 : Nat} {ay : Nat → Nat}
set_option maxHeartbeats 4000000 in
theorem ok_corks (hL : LayM th rh y0 ay) (hR : Rok (ka 1000)) (c n w : Int32) : Met l yX3_corks (ws_ yX3_corks cX3_corks 8 (some .int)) (RM 10 0 0) (Pc_ G [.ref y0, .int c, .int n, .int w] th rh ph ka) (Qi G th rh ph (fun r ka' => r = A_corks (sg ka) c n w ∧ Rel (sg ka) (sg ka'))) 0 0 (frG G) := by
  refine m_of (by decide) (Nat.le_of_ble_eq_true rfl) ?_
  intro p_ e_ s_ m_ below_ meth_ c_ B hr hnm ls hl hM
  have hx := B.1
  have hb := B.2.1
  have hM := hM
  have h8 := hR.1.2
  have h13 := hR.2.1.2
  have h14 := hR.2.2.1.2
  refine lv_aload_n hx hb dX3_corks_0 rfl (lv_at hl 0 rfl) ?_
  refine lv_iload_n hx hb dX3_corks_1 rfl (lv_at hl 1 rfl) ?_
  refine k_pb (r_V (As := [.int c]) (rest := []) B hM hL.1 rfl rfl (ok_isCellar hL hR c) cal_X3_isCellar q1506 rfl hl.1 (Nat.le_of_ble_eq_true rfl) dX3_corks_2 ⟨Nat.le_of_ble_eq_true rfl, Nat.le_of_ble_eq_true rfl⟩ ⟨Nat.le_of_ble_eq_true rfl, Nat.le_of_ble_eq_true rfl⟩) hM (fun H locs b2 hM => ?_) (fun H locs b2 hM => ?_)
  · obtain ⟨kc, hkc, rfl⟩ := b2
    have hinkc : inC (nI kc) (nC (ka 1000)) := (inC_iff (by omega)).mpr ⟨kc, hkc, rfl⟩
    have hclkc : cl (nI kc) = kc := cl_nI (by omega)
    refine lv_if_eq (tgt := 27) hx hb dX3_corks_5 (by decide) (fun cZ => absurd cZ (by decide)) (fun c5 => ?_)
    refine lv_iload_n hx hb dX3_corks_8 rfl (lv_at hl 2 rfl) ?_
    refine lv_iconst (v := 1) hx hb dX3_corks_9 (by decide) ?_
    refine lv_bipush (v := 60) hx hb dX3_corks_10 (by decide) ?_
    refine k_pb (r_S (As := [.int n, .int 1, .int 60]) (rest := []) B hM (ok_in n 1 60) cal_X3_in q1493 rfl hl.1 (Nat.le_of_ble_eq_true rfl) dX3_corks_12 ⟨Nat.le_of_ble_eq_true rfl, Nat.le_of_ble_eq_true rfl⟩ ⟨Nat.le_of_ble_eq_true rfl, Nat.le_of_ble_eq_true rfl⟩) hM (fun H locs b12 hM => ?_) (fun H locs b12 hM => ?_)
    · refine lv_if_eq (tgt := 27) hx hb dX3_corks_15 (by decide) (fun cZ => absurd cZ (by decide)) (fun c15 => ?_)
      refine lv_iload_n hx hb dX3_corks_18 rfl (lv_at hl 3 rfl) ?_
      refine lv_iconst (v := 0) hx hb dX3_corks_19 (by decide) ?_
      refine lv_iconst (v := 1) hx hb dX3_corks_20 (by decide) ?_
      refine k_pb (r_S (As := [.int w, .int 0, .int 1]) (rest := []) B hM (ok_in w 0 1) cal_X3_in q1493 rfl hl.1 (Nat.le_of_ble_eq_true rfl) dX3_corks_21 ⟨Nat.le_of_ble_eq_true rfl, Nat.le_of_ble_eq_true rfl⟩ ⟨Nat.le_of_ble_eq_true rfl, Nat.le_of_ble_eq_true rfl⟩) hM (fun H locs b21 hM => ?_) (fun H locs b21 hM => ?_)
      · refine lv_if_ne (tgt := 30) hx hb dX3_corks_24 (by decide) (fun c24 => ?_) (fun cZ => absurd cZ (by decide))
        obtain ⟨kn, hkna, hknb, rfl⟩ := (btw_iff (a := 1) (b := 60) (by decide) (by decide)).mp b12
        have hclkn : cl (nI kn) = kn := cl_nI (by omega)
        have loop : ∀ (fu_loop : Nat) (i : Nat) (best : Int32) (most : Int32) (kb : Ka), nP (ka 1000) - i < fu_loop → (i ≤ nP (ka 1000)) → (itn (ckS (ka 1000) kc kn) i (-1, -1) = (best, most)) → (kb 1000 = ka 1000) → (∀ j, j < 107 → kb 1005 j = ka 1000 j) → (But [1000, 1004, 1005, 1023, 1024] ka kb) → ∀ (ls : Array Slot) (H : Heap) (locs : List Loc), lv_has ls 8 [(0, .ref y0), (1, .int (nI kc)), (2, .int (nI kn)), (3, .int w), (4, .int best), (5, .int most), (6, .int (nI i))] → Md G th rh ph kb H locs → W p_ l e_ (RM 10 0 0) s_ m_ ([.ref y0, .int (nI kc), .int (nI kn), .int w].toArray) below_ meth_ c_ H locs 0 0 (MQ below_ (Qi G th rh ph (fun r ka' => r = A_corks (sg ka) (nI kc) (nI kn) w ∧ Rel (sg ka) (sg ka'))) ([.ref y0, .int (nI kc), .int (nI kn), .int w].toArray) s_ 0 0 (frG G)) (F0 m_ 43 ls []) := by
          intro fu_loop
          induction fu_loop with
          | zero => intro i best most kb hfu; exact absurd hfu (Nat.not_lt_zero _)
          | succ fu_loop ih_loop =>
            intro i best most kb hfu_loop hi hq2 hT hbf hbu ls H locs hl hM
            refine lv_iload hx hb dX3_corks_43 (lv_at hl 6 rfl) ?_
            refine lv_aload_n hx hb dX3_corks_45 rfl (lv_at hl 0 rfl) ?_
            refine r_getq B hM 0 hL.1 rfl (by decide) rfl rfl (hL.2 0 _ _ rfl).1 q1382 dX3_corks_46 ?_
            refine lv_iconst (v := 2) hx hb dX3_corks_49 (by decide) ?_
            refine r_ild B hM 2 (hL.2 0 _ _ rfl).2 rfl (by decide) (by decide) dX3_corks_50 ?_
            refine r_topv (v := (ka 1000) 2) (congrFun hT _) ?_
            refine lv_icmp_ge (tgt := 133) hx hb dX3_corks_51 (by decide) (fun c51 => ?_) (fun c51 => ?_)
            · have n51 : nP (ka 1000) ≤ i := ntLe (by rw [hR.2.1.1]) rfl (by omega) (by omega) c51
              refine lv_iload hx hb dX3_corks_133 (lv_at hl 4 rfl) ?_
              refine lv_if_ge (tgt := 143) hx hb dX3_corks_135 (by decide) (fun c135 => ?_) (fun c135 => ?_)
              · refine lv_iload_n hx hb dX3_corks_143 rfl (lv_at hl 3 rfl) ?_
                refine lv_if_ne (tgt := 152) hx hb dX3_corks_144 (by decide) (fun c144 => ?_) (fun c144 => ?_)
                · refine lv_iload hx hb dX3_corks_152 (lv_at hl 5 rfl) ?_
                  refine r_iret B hr hM dX3_corks_154 ?_
                  have hck : ckT (ka 1000) kc kn = (best, most) := by unfold ckT; rw [← hq2, show i = nP (ka 1000) by omega]
                  constructor
                  · simp only [A_corks, sg0, sg1, sg7, sg25, sg26, sg27, sg28, sg29, sg30, sg31, sg33, sg99, hclkc, hclkn]; rw [hck]; grind
                  · exact Rel.back hbu hT (by decide)
                · refine lv_iload hx hb dX3_corks_147 (lv_at hl 4 rfl) ?_
                  refine lv_goto (tgt := 154) hx hb dX3_corks_149 (by decide) ?_
                  refine r_iret B hr hM dX3_corks_154 ?_
                  have hck : ckT (ka 1000) kc kn = (best, most) := by unfold ckT; rw [← hq2, show i = nP (ka 1000) by omega]
                  constructor
                  · simp only [A_corks, sg0, sg1, sg7, sg25, sg26, sg27, sg28, sg29, sg30, sg31, sg33, sg99, hclkc, hclkn]; rw [hck]; grind
                  · exact Rel.back hbu hT (by decide)
              · refine lv_ldc hx hb B.2.2.2.1 (B.ts _ q1681) dX3_corks_138 ?_
                refine lv_goto (tgt := 154) hx hb dX3_corks_140 (by decide) ?_
                refine r_iret B hr hM dX3_corks_154 ?_
                have hck : ckT (ka 1000) kc kn = (best, most) := by unfold ckT; rw [← hq2, show i = nP (ka 1000) by omega]
                constructor
                · simp only [A_corks, sg0, sg1, sg7, sg25, sg26, sg27, sg28, sg29, sg30, sg31, sg33, sg99, hclkc, hclkn]; rw [hck]; grind
                · exact Rel.back hbu hT (by decide)
            · have n51 : i < nP (ka 1000) := ntNle (by rw [hR.2.1.1]) rfl (by omega) (by omega) c51
              refine lv_aload_n hx hb dX3_corks_54 rfl (lv_at hl 0 rfl) ?_
              refine lv_iload hx hb dX3_corks_55 (lv_at hl 6 rfl) ?_
              refine lv_iconst (v := 3) hx hb dX3_corks_57 (by decide) ?_
              refine k_pe (v := kb 1000 (55 + 4 * i + 3)) (r_V (As := [.int (nI i), .int 3]) (rest := []) B hM hL.1 rfl rfl (ok_at hL (c := i) (w := 3) (by omega) (by omega)) cal_X3_at q1596 rfl hl.1 (Nat.le_of_ble_eq_true rfl) dX3_corks_58 ⟨Nat.le_of_ble_eq_true rfl, Nat.le_of_ble_eq_true rfl⟩ ⟨Nat.le_of_ble_eq_true rfl, Nat.le_of_ble_eq_true rfl⟩) hM (fun H locs hM => ?_)
              refine r_topv (v := ka 1000 (55 + 4 * i + 3)) (by rw [hT]) ?_
              refine lv_if_ne (tgt := 127) hx hb dX3_corks_61 (by decide) (fun c61 => ?_) (fun c61 => ?_)
              · refine lv_iinc (v := nI (i + 1)) (lv' := [(6, .int (nI (i + 1))), (0, .ref y0), (1, .int (nI kc)), (2, .int (nI kn)), (3, .int w), (4, .int best), (5, .int most)]) hx hb dX3_corks_127 hl (k := 6) rfl (nI_1 _) (by decide) rfl (fun ls hl => ?_)
                refine lv_goto (tgt := 43) hx hb dX3_corks_130 (by decide) ?_
                exact ih_loop (i + 1) best most kb (by omega) (by omega) (by show ckS _ _ _ i (itn _ i _) = _; rw [hq2, ckS, if_neg c61]) hT hbf hbu _ _ _ (lv_sub hl [1, 2, 3, 4, 5, 6, 0] rfl) hM
              · refine lv_aload_n hx hb dX3_corks_64 rfl (lv_at hl 0 rfl) ?_
                refine r_getq B hM 0 hL.1 rfl (by decide) rfl rfl (hL.2 0 _ _ rfl).1 q1382 dX3_corks_65 ?_
                refine lv_bipush (v := 55) hx hb dX3_corks_68 (by decide) ?_
                refine lv_iconst (v := 4) hx hb dX3_corks_70 (by decide) ?_
                refine lv_iload hx hb dX3_corks_71 (lv_at hl 6 rfl) ?_
                refine lv_imul hx hb dX3_corks_73 ?_
                refine lv_iadd hx hb dX3_corks_74 ?_
                refine lv_iconst (v := 3) hx hb dX3_corks_75 (by decide) ?_
                refine lv_iadd hx hb dX3_corks_76 ?_
                refine lv_iconst (v := 1) hx hb dX3_corks_77 (by decide) ?_
                refine r_ist B hM (55 + 4 * i + 3) (hL.2 0 _ _ rfl).2 (by simp only [nA, nMu, nL]) (by omega) (by decide) dX3_corks_78 (fun ka_1 H locs eka_1 hM => ?_)
                have hB_1 : But [1000, 1004, 1005, 1023, 1024] ka ka_1 := But.trans hbu (by rw [eka_1]; exact But.up (by decide))
                have hT1 : ka_1 1000 = rw1 (ka 1000) (55 + 4 * i + 3) 1 := by rw [eka_1, up2_row, hT]; rfl
                have hbf1 : ∀ i, i < 107 → ka_1 1005 i = ka 1000 i := fun i hi => by rw [eka_1, up2_a _ _ _ (by decide)]; exact hbf i hi
                refine lv_aload_n hx hb dX3_corks_79 rfl (lv_at hl 0 rfl) ?_
                refine lv_iload_n hx hb dX3_corks_80 rfl (lv_at hl 2 rfl) ?_
                refine k_v (r_V (As := [.int (nI kn)]) (rest := []) B hM hL.1 rfl rfl (ok_goesOn hL (by rw [hT1]; exact (hR.cork (by omega) 1)) (n := kn) (by omega)) cal_X3_goesOn q1629 rfl hl.1 (Nat.le_of_ble_eq_true rfl) dX3_corks_81 ⟨Nat.le_of_ble_eq_true rfl, Nat.le_of_ble_eq_true rfl⟩ ⟨Nat.le_of_ble_eq_true rfl, Nat.le_of_ble_eq_true rfl⟩) hM (fun ka_2 H locs p_3 hM => ?_)
                obtain ⟨hf2, hq⟩ := p_3
                have hT2 : ka_2 1000 = hoursT kn (rw1 (ka 1000) (55 + 4 * i + 3) 1) := by rw [hf2, hT1]
                have hbf2 : ∀ i, i < 107 → ka_2 1005 i = ka 1000 i := fun i hi => by rw [hq 1005 (by decide)]; exact hbf1 i hi
                have hB_2 : But [1000, 1004, 1005, 1023, 1024] ka ka_2 := But.trans hB_1 (But.mono hq (by decide))
                refine lv_aload_n hx hb dX3_corks_84 rfl (lv_at hl 0 rfl) ?_
                refine lv_iload_n hx hb dX3_corks_85 rfl (lv_at hl 1 rfl) ?_
                refine k_pe (v := fullT (ka_2 1000) kc) (r_V (As := [.int (nI kc)]) (rest := []) B hM hL.1 rfl rfl (ok_fullOf hL (c := kc) (by omega)) cal_X3_fullOf q1514 rfl hl.1 (Nat.le_of_ble_eq_true rfl) dX3_corks_86 ⟨Nat.le_of_ble_eq_true rfl, Nat.le_of_ble_eq_true rfl⟩ ⟨Nat.le_of_ble_eq_true rfl, Nat.le_of_ble_eq_true rfl⟩) hM (fun H locs hM => ?_)
                refine r_topv (v := fullT (hoursT kn (rw1 (ka 1000) (55 + 4 * i + 3) 1)) kc) (by rw [hT2]) ?_
                refine lv_topi (fun v_4 ev_4 => ?_)
                refine lv_istore (lv' := [(7, .int v_4), (0, .ref y0), (1, .int (nI kc)), (2, .int (nI kn)), (3, .int w), (4, .int best), (5, .int most), (6, .int (nI i))]) hx hb dX3_corks_89 hl (by decide) rfl (fun ls hl => ?_)
                refine lv_aload_n hx hb dX3_corks_91 rfl (lv_at hl 1 rfl) ?_
                refine k_v (r_V (As := []) (rest := []) B hM hL.1 rfl rfl (ok_putsBack hL) cal_X3_putsBack q1669 rfl hl.1 (Nat.le_of_ble_eq_true rfl) dX3_corks_92 ⟨Nat.le_of_ble_eq_true rfl, Nat.le_of_ble_eq_true rfl⟩ ⟨Nat.le_of_ble_eq_true rfl, Nat.le_of_ble_eq_true rfl⟩) hM (fun ka_5 H locs p_6 hM => ?_)
                obtain ⟨hp5, hq⟩ := p_6
                have hT5 : ka_5 1000 = ka 1000 := by rw [hp5, hT2]; exact bk_eq hbf2 (fun i hi => ((hoursT_seq (hR.cork (by omega) 1) kn).tx hi).trans ((rw1_107 (by omega) 1) i hi))
                have hbf5 : ∀ i, i < 107 → ka_5 1005 i = ka 1000 i := fun i hi => by rw [hq 1005 (by decide)]; exact hbf2 i hi
                have hB_5 : But [1000, 1004, 1005, 1023, 1024] ka ka_5 := But.trans hB_2 (But.mono hq (by decide))
                refine lv_iload hx hb dX3_corks_95 (lv_at hl 0 rfl) ?_
                refine lv_iload hx hb dX3_corks_97 (lv_at hl 6 rfl) ?_
                refine lv_icmp_le (tgt := 107) hx hb dX3_corks_99 (by decide) (fun c99 => ?_) (fun c99 => ?_)
                · refine lv_iload hx hb dX3_corks_107 (lv_at hl 5 rfl) ?_
                  refine lv_istore (lv' := [(4, .int best), (7, .int v_4), (0, .ref y0), (1, .int (nI kc)), (2, .int (nI kn)), (3, .int w), (5, .int most), (6, .int (nI i))]) hx hb dX3_corks_109 hl (by decide) rfl (fun ls hl => ?_)
                  refine lv_iload hx hb dX3_corks_111 (lv_at hl 1 rfl) ?_
                  refine lv_iload hx hb dX3_corks_113 (lv_at hl 6 rfl) ?_
                  refine lv_icmp_le (tgt := 123) hx hb dX3_corks_115 (by decide) (fun c115 => ?_) (fun cZ => absurd c99 cZ)
                  refine lv_iload hx hb dX3_corks_123 (lv_at hl 6 rfl) ?_
                  refine lv_istore (lv' := [(5, .int most), (4, .int best), (7, .int v_4), (0, .ref y0), (1, .int (nI kc)), (2, .int (nI kn)), (3, .int w), (6, .int (nI i))]) hx hb dX3_corks_125 hl (by decide) rfl (fun ls hl => ?_)
                  refine lv_iinc (v := nI (i + 1)) (lv' := [(6, .int (nI (i + 1))), (5, .int most), (4, .int best), (7, .int v_4), (0, .ref y0), (1, .int (nI kc)), (2, .int (nI kn)), (3, .int w)]) hx hb dX3_corks_127 hl (k := 7) rfl (nI_1 _) (by decide) rfl (fun ls hl => ?_)
                  refine lv_goto (tgt := 43) hx hb dX3_corks_130 (by decide) ?_
                  exact ih_loop (i + 1) best most ka_5 (by omega) (by omega) (by show ckS _ _ _ i (itn _ i _) = _; rw [hq2, ckS, if_pos c61, if_neg (by rw [← ev_4]; exact i_nlt.mpr c99)]) hT5 hbf5 hB_5 _ _ _ (lv_sub hl [4, 5, 6, 7, 2, 1, 0] rfl) hM
                · refine lv_iload hx hb dX3_corks_102 (lv_at hl 7 rfl) ?_
                  refine lv_goto (tgt := 109) hx hb dX3_corks_104 (by decide) ?_
                  refine lv_istore (lv' := [(4, .int (nI i)), (7, .int v_4), (0, .ref y0), (1, .int (nI kc)), (2, .int (nI kn)), (3, .int w), (5, .int most), (6, .int (nI i))]) hx hb dX3_corks_109 hl (by decide) rfl (fun ls hl => ?_)
                  refine lv_iload hx hb dX3_corks_111 (lv_at hl 1 rfl) ?_
                  refine lv_iload hx hb dX3_corks_113 (lv_at hl 6 rfl) ?_
                  refine lv_icmp_le (tgt := 123) hx hb dX3_corks_115 (by decide) (fun cZ => absurd cZ c99) (fun c115 => ?_)
                  refine lv_iload hx hb dX3_corks_118 (lv_at hl 1 rfl) ?_
                  refine lv_goto (tgt := 125) hx hb dX3_corks_120 (by decide) ?_
                  refine lv_istore (lv' := [(5, .int v_4), (4, .int (nI i)), (7, .int v_4), (0, .ref y0), (1, .int (nI kc)), (2, .int (nI kn)), (3, .int w), (6, .int (nI i))]) hx hb dX3_corks_125 hl (by decide) rfl (fun ls hl => ?_)
                  refine lv_iinc (v := nI (i + 1)) (lv' := [(6, .int (nI (i + 1))), (5, .int v_4), (4, .int (nI i)), (7, .int v_4), (0, .ref y0), (1, .int (nI kc)), (2, .int (nI kn)), (3, .int w)]) hx hb dX3_corks_127 hl (k := 7) rfl (nI_1 _) (by decide) rfl (fun ls hl => ?_)
                  refine lv_goto (tgt := 43) hx hb dX3_corks_130 (by decide) ?_
                  exact ih_loop (i + 1) (nI i) v_4 ka_5 (by omega) (by omega) (by show ckS _ _ _ i (itn _ i _) = _; rw [hq2, ckS, if_pos c61, if_pos (by rw [← ev_4]; exact i_nle.mp c99), ← ev_4]) hT5 hbf5 hB_5 _ _ _ (lv_sub hl [4, 5, 6, 7, 2, 1, 0] rfl) hM
        refine lv_aload_n hx hb dX3_corks_30 rfl (lv_at hl 0 rfl) ?_
        refine k_v (r_V (As := []) (rest := []) B hM hL.1 rfl rfl (ok_thinks hL) cal_X3_thinks q1665 rfl hl.1 (Nat.le_of_ble_eq_true rfl) dX3_corks_31 ⟨Nat.le_of_ble_eq_true rfl, Nat.le_of_ble_eq_true rfl⟩ ⟨Nat.le_of_ble_eq_true rfl, Nat.le_of_ble_eq_true rfl⟩) hM (fun ka_7 H locs p_8 hM => ?_)
        obtain ⟨ht1, hq⟩ := p_8
        have hT7 : ka_7 1000 = ka 1000 := (hq 1000 (by decide))
        have hbf7 : ∀ i, i < 107 → ka_7 1005 i = ka 1000 i := fun i hi => by rw [ht1]; exact if_pos hi
        have hB_7 : But [1000, 1004, 1005, 1023, 1024] ka ka_7 := But.trans But.refl (But.mono hq (by decide))
        refine lv_iconst (v := (-1)) hx hb dX3_corks_34 (by decide) ?_
        refine lv_istore (lv' := [(4, .int (-1)), (0, .ref y0), (1, .int (nI kc)), (2, .int (nI kn)), (3, .int w)]) hx hb dX3_corks_35 hl (by decide) rfl (fun ls hl => ?_)
        refine lv_iconst (v := (-1)) hx hb dX3_corks_37 (by decide) ?_
        refine lv_istore (lv' := [(5, .int (-1)), (4, .int (-1)), (0, .ref y0), (1, .int (nI kc)), (2, .int (nI kn)), (3, .int w)]) hx hb dX3_corks_38 hl (by decide) rfl (fun ls hl => ?_)
        refine lv_iconst (v := 0) hx hb dX3_corks_40 (by decide) ?_
        refine lv_istore (lv' := [(6, .int 0), (5, .int (-1)), (4, .int (-1)), (0, .ref y0), (1, .int (nI kc)), (2, .int (nI kn)), (3, .int w)]) hx hb dX3_corks_41 hl (by decide) rfl (fun ls hl => ?_)
        exact loop (nP (ka 1000) + 1) 0 (-1) (-1) ka_7 (by omega) (Nat.zero_le _) rfl hT7 hbf7 hB_7 _ _ _ (lv_sub hl [3, 4, 5, 6, 2, 1, 0] rfl) hM
      · refine lv_if_ne (tgt := 30) hx hb dX3_corks_24 (by decide) (fun cZ => absurd (by decide) cZ) (fun c24 => ?_)
        refine lv_ldc hx hb B.2.2.2.1 (B.ts _ q1496) dX3_corks_27 ?_
        refine r_iret B hr hM dX3_corks_29 ?_
        constructor
        · simp only [A_corks, sg0, sg1, sg7, sg25, sg26, sg27, sg28, sg29, sg30, sg31, sg33, sg99, hclkc] <;> grind
        · exact Rel.refl
    · refine lv_if_eq (tgt := 27) hx hb dX3_corks_15 (by decide) (fun c15 => ?_) (fun cZ => absurd (by decide) cZ)
      refine lv_ldc hx hb B.2.2.2.1 (B.ts _ q1496) dX3_corks_27 ?_
      refine r_iret B hr hM dX3_corks_29 ?_
      constructor
      · simp only [A_corks, sg0, sg1, sg7, sg25, sg26, sg27, sg28, sg29, sg30, sg31, sg33, sg99, hclkc] <;> grind
      · exact Rel.refl
  · refine lv_if_eq (tgt := 27) hx hb dX3_corks_5 (by decide) (fun c5 => ?_) (fun cZ => absurd (by decide) cZ)
    refine lv_ldc hx hb B.2.2.2.1 (B.ts _ q1496) dX3_corks_27 ?_
    refine r_iret B hr hM dX3_corks_29 ?_
    have ib2 := mt (inC_iff (n := nC (ka 1000)) (by omega)).mp b2
    constructor
    · simp only [A_corks, sg0, sg1, sg7, sg25, sg26, sg27, sg28, sg29, sg30, sg31, sg33, sg99] <;> grind
    · exact Rel.refl
set_option maxHeartbeats 4000000 in
theorem ok_offBy (hL : LayM th rh y0 ay) (hR : Rok (ka 1000)) {sh c z : Nat} (hsh : sh < 4) (hc : c < 8) (hz24 : z ≤ 24) (hz : ka 1026 sh = nI z) : Met l yX3_offBy (ws_ yX3_offBy cX3_offBy 9 (some .long)) (RM 9 0 0) (Pc_ G [.ref y0, .int (nI sh), .int (nI c)] th rh ph ka) (Ql G th rh ph (fun r ka' => r = (offT (ka 1027) sh c z (ka 1000)).2 ∧ ka' 1000 = bkT (ka 1005) (ka 1000) ∧ But [1000, 1004, 1023, 1024] ka ka')) 0 0 (frG G) := by
  refine m_of (by decide) (Nat.le_of_ble_eq_true rfl) ?_
  intro p_ e_ s_ m_ below_ meth_ c_ B hr hnm ls hl hM
  have hx := B.1
  have hb := B.2.1
  have hM := hM
  have h8 := hR.1.2
  have h13 := hR.2.1.2
  have h14 := hR.2.2.1.2
  have loop : ∀ (fu_loop : Nat) (i : Nat) (sum : Int64) (kb : Ka), z - i < fu_loop → (i ≤ z) → (kb 1000 = (offT (ka 1027) sh c i (ka 1000)).1) → (sum = (offT (ka 1027) sh c i (ka 1000)).2) → (But [1000, 1004, 1023, 1024] ka kb) → ∀ (ls : Array Slot) (H : Heap) (locs : List Loc), lv_has ls 9 [(0, .ref y0), (1, .int (nI sh)), (2, .int (nI c)), (3, .long sum), (5, .int (nI i))] → Md G th rh ph kb H locs → W p_ l e_ (RM 9 0 0) s_ m_ ([.ref y0, .int (nI sh), .int (nI c)].toArray) below_ meth_ c_ H locs 0 0 (MQ below_ (Ql G th rh ph (fun r ka' => r = (offT (ka 1027) sh c z (ka 1000)).2 ∧ ka' 1000 = bkT (ka 1005) (ka 1000) ∧ But [1000, 1004, 1023, 1024] ka ka')) ([.ref y0, .int (nI sh), .int (nI c)].toArray) s_ 0 0 (frG G)) (F0 m_ 5 ls []) := by
    intro fu_loop
    induction fu_loop with
    | zero => intro i sum kb hfu; exact absurd hfu (Nat.not_lt_zero _)
    | succ fu_loop ih_loop =>
      intro i sum kb hfu_loop hi hT hsum hbu ls H locs hl hM
      refine lv_iload hx hb dX3_offBy_5 (lv_at hl 4 rfl) ?_
      refine lv_aload_n hx hb dX3_offBy_7 rfl (lv_at hl 0 rfl) ?_
      refine r_getq B hM 26 hL.1 rfl (by decide) rfl rfl (hL.2 26 _ _ rfl).1 q1408 dX3_offBy_8 ?_
      refine lv_iload_n hx hb dX3_offBy_11 rfl (lv_at hl 1 rfl) ?_
      refine r_ild B hM sh (hL.2 26 _ _ rfl).2 rfl (by omega) (by decide) dX3_offBy_12 ?_
      refine r_topv (v := ka 1026 sh) (congrFun (hbu 1026 (by decide)) _) ?_
      refine lv_icmp_ge (tgt := 81) hx hb dX3_offBy_13 (by decide) (fun c13 => ?_) (fun c13 => ?_)
      · have n13 : z ≤ i := ntLe (by rw [hz]) rfl (by omega) (by omega) c13
        refine lv_aload_n hx hb dX3_offBy_81 rfl (lv_at hl 0 rfl) ?_
        refine k_v (r_V (As := []) (rest := []) B hM hL.1 rfl rfl (ok_putsBack hL) cal_X3_putsBack q1669 rfl hl.1 (Nat.le_of_ble_eq_true rfl) dX3_offBy_82 ⟨Nat.le_of_ble_eq_true rfl, Nat.le_of_ble_eq_true rfl⟩ ⟨Nat.le_of_ble_eq_true rfl, Nat.le_of_ble_eq_true rfl⟩) hM (fun ka_1 H locs p_2 hM => ?_)
        obtain ⟨hpb, hq⟩ := p_2
        have hB_1 : But [1000, 1004, 1023, 1024] ka ka_1 := But.trans hbu (But.mono hq (by decide))
        refine lv_lload_n hx hb dX3_offBy_85 rfl (lv_at hl 3 rfl) ?_
        refine r_lret B hr hM dX3_offBy_86 ?_
        have hin : i = z := by omega
        subst hin
        refine ⟨hsum, ?_, hB_1⟩
        rw [hpb, hT, hbu 1005 (by decide)]; exact (offT_seq hR sh c i).bk
      · have n13 : i < z := ntNle (by rw [hz]) rfl (by omega) (by omega) c13
        refine lv_aload_n hx hb dX3_offBy_16 rfl (lv_at hl 0 rfl) ?_
        refine r_getq B hM 27 hL.1 rfl (by decide) rfl rfl (hL.2 27 _ _ rfl).1 q1409 dX3_offBy_17 ?_
        refine lv_bipush (v := 24) hx hb dX3_offBy_20 (by decide) ?_
        refine lv_iload_n hx hb dX3_offBy_22 rfl (lv_at hl 1 rfl) ?_
        refine lv_imul hx hb dX3_offBy_23 ?_
        refine lv_iload hx hb dX3_offBy_24 (lv_at hl 4 rfl) ?_
        refine lv_iadd hx hb dX3_offBy_26 ?_
        refine r_ild B hM (24 * sh + i) (hL.2 27 _ _ rfl).2 (by simp only [nA, nMu, nL]) (by omega) (by decide) dX3_offBy_27 ?_
        refine r_topv (v := ka 1027 (24 * sh + i)) (congrFun (hbu 1027 (by decide)) _) ?_
        refine lv_topi (fun v_3 ev_3 => ?_)
        refine lv_istore (lv' := [(6, .int v_3), (0, .ref y0), (1, .int (nI sh)), (2, .int (nI c)), (3, .long sum), (5, .int (nI i))]) hx hb dX3_offBy_28 hl (by decide) rfl (fun ls hl => ?_)
        refine lv_iload hx hb dX3_offBy_30 (lv_at hl 0 rfl) ?_
        refine lv_i2l hx hb dX3_offBy_32 rfl ?_
        refine lv_aload_n hx hb dX3_offBy_33 rfl (lv_at hl 1 rfl) ?_
        refine lv_iload_n hx hb dX3_offBy_34 rfl (lv_at hl 3 rfl) ?_
        refine k_i (r_V (As := [.int (nI c)]) (rest := [.long v_3.toInt64]) B hM hL.1 rfl rfl (ok_levelOf hL (by rw [hT]; exact ((offT_seq hR sh c i).rok hR)) (c := c) (by omega)) cal_X3_levelOf q1536 rfl hl.1 (Nat.le_of_ble_eq_true rfl) dX3_offBy_35 ⟨Nat.le_of_ble_eq_true rfl, Nat.le_of_ble_eq_true rfl⟩ ⟨Nat.le_of_ble_eq_true rfl, Nat.le_of_ble_eq_true rfl⟩) hM (fun r_4 ka_5 H locs p_6 hM => ?_)
        obtain ⟨rfl, hq⟩ := p_6
        have hB_5 : But [1000, 1004, 1023, 1024] ka ka_5 := But.trans hbu (But.mono hq (by decide))
        have hT5 : ka_5 1000 = (offT (ka 1027) sh c i (ka 1000)).1 := (hq 1000 (by decide)).trans hT
        refine r_topv (v := levelT ((offT (ka 1027) sh c i (ka 1000)).1) c) (by rw [hT]) ?_
        refine lv_i2l hx hb dX3_offBy_38 rfl ?_
        refine lv_lsub hx hb dX3_offBy_39 ?_
        refine lv_topl (fun v_7 ev_7 => ?_)
        refine lv_lstore (lv' := [(7, .long v_7), (6, .int v_3), (0, .ref y0), (1, .int (nI sh)), (2, .int (nI c)), (3, .long sum), (5, .int (nI i))]) hx hb dX3_offBy_40 hl (by decide) rfl (fun ls hl => ?_)
        refine lv_lload_n hx hb dX3_offBy_42 rfl (lv_at hl 5 rfl) ?_
        refine lv_iload hx hb dX3_offBy_43 (lv_at hl 1 rfl) ?_
        refine lv_ldc hx hb B.2.2.2.1 (B.ts _ q1681) dX3_offBy_45 ?_
        refine lv_icmp_ne (tgt := 54) hx hb dX3_offBy_47 (by decide) (fun c47 => ?_) (fun c47 => ?_)
        · refine lv_lload hx hb dX3_offBy_54 (lv_at hl 0 rfl) ?_
          refine lv_lconst (v := 0) hx hb dX3_offBy_56 (by decide) ?_
          refine W.lcmp hx hb dX3_offBy_57 ?_
          refine lv_if_ge (tgt := 67) hx hb dX3_offBy_58 (by decide) (fun c58 => ?_) (fun c58 => ?_)
          · refine lv_lload hx hb dX3_offBy_67 (lv_at hl 0 rfl) ?_
            refine lv_ladd hx hb dX3_offBy_69 ?_
            refine lv_topl (fun v_8 ev_8 => ?_)
            refine lv_lstore_n (lv' := [(3, .long v_8), (7, .long v_7), (6, .int v_3), (0, .ref y0), (1, .int (nI sh)), (2, .int (nI c)), (5, .int (nI i))]) hx hb dX3_offBy_70 rfl hl (by decide) rfl (fun ls hl => ?_)
            refine lv_aload_n hx hb dX3_offBy_71 rfl (lv_at hl 3 rfl) ?_
            refine k_v (r_V (As := []) (rest := []) B hM hL.1 rfl rfl (ok_hour hL (by rw [hT5]; exact ((offT_seq hR sh c i).rok hR))) cal_X3_hour q1633 rfl hl.1 (Nat.le_of_ble_eq_true rfl) dX3_offBy_72 ⟨Nat.le_of_ble_eq_true rfl, Nat.le_of_ble_eq_true rfl⟩ ⟨Nat.le_of_ble_eq_true rfl, Nat.le_of_ble_eq_true rfl⟩) hM (fun ka_9 H locs p_10 hM => ?_)
            obtain ⟨hf9, hq⟩ := p_10
            have hT9 : ka_9 1000 = (offT (ka 1027) sh c (i + 1) (ka 1000)).1 := by rw [hf9, hT5]; rfl
            have hB_9 : But [1000, 1004, 1023, 1024] ka ka_9 := But.trans hB_5 (But.mono hq (by decide))
            refine lv_iinc (v := nI (i + 1)) (lv' := [(5, .int (nI (i + 1))), (3, .long v_8), (7, .long v_7), (6, .int v_3), (0, .ref y0), (1, .int (nI sh)), (2, .int (nI c))]) hx hb dX3_offBy_75 hl (k := 6) rfl (nI_1 _) (by decide) rfl (fun ls hl => ?_)
            refine lv_goto (tgt := 5) hx hb dX3_offBy_78 (by decide) ?_
            exact ih_loop (i + 1) v_8 ka_9 (by omega) (by omega) (hT9) (by show v_8 = (ofS _ _ _ i (offT (ka 1027) sh c i (ka 1000))).2; simp only [ofS]; rw [if_neg (by rw [← ev_3]; exact c47), if_neg (by rw [← ev_3, ← ev_7]; exact i64nlt c58), ← hsum, ev_8, ev_7, ev_3]) hB_9 _ _ _ (lv_sub hl [4, 5, 6, 1, 0] rfl) hM
          · refine lv_lload hx hb dX3_offBy_61 (lv_at hl 0 rfl) ?_
            refine lv_lneg hx hb dX3_offBy_63 ?_
            refine lv_goto (tgt := 69) hx hb dX3_offBy_64 (by decide) ?_
            refine lv_ladd hx hb dX3_offBy_69 ?_
            refine lv_topl (fun v_11 ev_11 => ?_)
            refine lv_lstore_n (lv' := [(3, .long v_11), (7, .long v_7), (6, .int v_3), (0, .ref y0), (1, .int (nI sh)), (2, .int (nI c)), (5, .int (nI i))]) hx hb dX3_offBy_70 rfl hl (by decide) rfl (fun ls hl => ?_)
            refine lv_aload_n hx hb dX3_offBy_71 rfl (lv_at hl 3 rfl) ?_
            refine k_v (r_V (As := []) (rest := []) B hM hL.1 rfl rfl (ok_hour hL (by rw [hT5]; exact ((offT_seq hR sh c i).rok hR))) cal_X3_hour q1633 rfl hl.1 (Nat.le_of_ble_eq_true rfl) dX3_offBy_72 ⟨Nat.le_of_ble_eq_true rfl, Nat.le_of_ble_eq_true rfl⟩ ⟨Nat.le_of_ble_eq_true rfl, Nat.le_of_ble_eq_true rfl⟩) hM (fun ka_12 H locs p_13 hM => ?_)
            obtain ⟨hf12, hq⟩ := p_13
            have hT12 : ka_12 1000 = (offT (ka 1027) sh c (i + 1) (ka 1000)).1 := by rw [hf12, hT5]; rfl
            have hB_12 : But [1000, 1004, 1023, 1024] ka ka_12 := But.trans hB_5 (But.mono hq (by decide))
            refine lv_iinc (v := nI (i + 1)) (lv' := [(5, .int (nI (i + 1))), (3, .long v_11), (7, .long v_7), (6, .int v_3), (0, .ref y0), (1, .int (nI sh)), (2, .int (nI c))]) hx hb dX3_offBy_75 hl (k := 6) rfl (nI_1 _) (by decide) rfl (fun ls hl => ?_)
            refine lv_goto (tgt := 5) hx hb dX3_offBy_78 (by decide) ?_
            exact ih_loop (i + 1) v_11 ka_12 (by omega) (by omega) (hT12) (by show v_11 = (ofS _ _ _ i (offT (ka 1027) sh c i (ka 1000))).2; simp only [ofS]; rw [if_neg (by rw [← ev_3]; exact c47), if_pos (by rw [← ev_3, ← ev_7]; exact i64nle c58), ← hsum, ev_11, ev_7, ev_3]) hB_12 _ _ _ (lv_sub hl [4, 5, 6, 1, 0] rfl) hM
        · refine lv_lconst (v := 0) hx hb dX3_offBy_50 (by decide) ?_
          refine lv_goto (tgt := 69) hx hb dX3_offBy_51 (by decide) ?_
          refine lv_ladd hx hb dX3_offBy_69 ?_
          refine lv_topl (fun v_14 ev_14 => ?_)
          refine lv_lstore_n (lv' := [(3, .long v_14), (7, .long v_7), (6, .int v_3), (0, .ref y0), (1, .int (nI sh)), (2, .int (nI c)), (5, .int (nI i))]) hx hb dX3_offBy_70 rfl hl (by decide) rfl (fun ls hl => ?_)
          refine lv_aload_n hx hb dX3_offBy_71 rfl (lv_at hl 3 rfl) ?_
          refine k_v (r_V (As := []) (rest := []) B hM hL.1 rfl rfl (ok_hour hL (by rw [hT5]; exact ((offT_seq hR sh c i).rok hR))) cal_X3_hour q1633 rfl hl.1 (Nat.le_of_ble_eq_true rfl) dX3_offBy_72 ⟨Nat.le_of_ble_eq_true rfl, Nat.le_of_ble_eq_true rfl⟩ ⟨Nat.le_of_ble_eq_true rfl, Nat.le_of_ble_eq_true rfl⟩) hM (fun ka_15 H locs p_16 hM => ?_)
          obtain ⟨hf15, hq⟩ := p_16
          have hT15 : ka_15 1000 = (offT (ka 1027) sh c (i + 1) (ka 1000)).1 := by rw [hf15, hT5]; rfl
          have hB_15 : But [1000, 1004, 1023, 1024] ka ka_15 := But.trans hB_5 (But.mono hq (by decide))
          refine lv_iinc (v := nI (i + 1)) (lv' := [(5, .int (nI (i + 1))), (3, .long v_14), (7, .long v_7), (6, .int v_3), (0, .ref y0), (1, .int (nI sh)), (2, .int (nI c))]) hx hb dX3_offBy_75 hl (k := 6) rfl (nI_1 _) (by decide) rfl (fun ls hl => ?_)
          refine lv_goto (tgt := 5) hx hb dX3_offBy_78 (by decide) ?_
          exact ih_loop (i + 1) v_14 ka_15 (by omega) (by omega) (hT15) (by show v_14 = (ofS _ _ _ i (offT (ka 1027) sh c i (ka 1000))).2; simp only [ofS]; rw [if_pos (by rw [← ev_3]; exact c47), ← hsum, ev_14]) hB_15 _ _ _ (lv_sub hl [4, 5, 6, 1, 0] rfl) hM
  refine lv_lconst (v := 0) hx hb dX3_offBy_0 (by decide) ?_
  refine lv_lstore_n (lv' := [(3, .long 0), (0, .ref y0), (1, .int (nI sh)), (2, .int (nI c))]) hx hb dX3_offBy_1 rfl hl (by decide) rfl (fun ls hl => ?_)
  refine lv_iconst (v := 0) hx hb dX3_offBy_2 (by decide) ?_
  refine lv_istore (lv' := [(5, .int 0), (3, .long 0), (0, .ref y0), (1, .int (nI sh)), (2, .int (nI c))]) hx hb dX3_offBy_3 hl (by decide) rfl (fun ls hl => ?_)
  exact loop (z + 1) 0 0 ka (by omega) (Nat.zero_le _) rfl rfl But.refl _ _ _ (lv_sub hl [2, 3, 4, 1, 0] rfl) hM
end
