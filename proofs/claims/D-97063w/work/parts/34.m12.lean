/-! the model: the loser, a tap, what was dug, where to dig -/
set_option maxRecDepth 100000
section
variable {l : Launch} {G : GG} {th : Th} {rh : Rh} {ph : Ph} {ka : Ka} {y0 : Nat} {ay : Nat → Nat}
set_option maxHeartbeats 4000000 in
theorem ok_loser (hL : LayM th rh y0 ay) (hR : Rok (ka 1000)) (n w : Int32) : Met l yX3_loser (ws_ yX3_loser cX3_loser 7 (some .int)) (RM 10 0 0) (Pc_ G [.ref y0, .int n, .int w] th rh ph ka) (Qi G th rh ph (fun r ka' => r = A_loser (sg ka) n w ∧ Rel (sg ka) (sg ka'))) 0 0 (frG G) := by
  refine m_of (by decide) (Nat.le_of_ble_eq_true rfl) ?_
  intro p_ e_ s_ m_ below_ meth_ c_ B hr hnm ls hl hM
  have hx := B.1
  have hb := B.2.1
  have hM := hM
  have h8 := hR.1.2
  have h13 := hR.2.1.2
  have h14 := hR.2.2.1.2
  refine lv_iload_n hx hb dX3_loser_0 rfl (lv_at hl 1 rfl) ?_
  refine lv_iconst (v := 1) hx hb dX3_loser_1 (by decide) ?_
  refine lv_bipush (v := 60) hx hb dX3_loser_2 (by decide) ?_
  refine k_pb (r_S (As := [.int n, .int 1, .int 60]) (rest := []) B hM (ok_in n 1 60) cal_X3_in q1493 rfl hl.1 (Nat.le_of_ble_eq_true rfl) dX3_loser_4 ⟨Nat.le_of_ble_eq_true rfl, Nat.le_of_ble_eq_true rfl⟩ ⟨Nat.le_of_ble_eq_true rfl, Nat.le_of_ble_eq_true rfl⟩) hM (fun H locs b4 hM => ?_) (fun H locs b4 hM => ?_)
  · refine lv_if_eq (tgt := 19) hx hb dX3_loser_7 (by decide) (fun cZ => absurd cZ (by decide)) (fun c7 => ?_)
    refine lv_iload_n hx hb dX3_loser_10 rfl (lv_at hl 2 rfl) ?_
    refine lv_iconst (v := 0) hx hb dX3_loser_11 (by decide) ?_
    refine lv_iconst (v := 1) hx hb dX3_loser_12 (by decide) ?_
    refine k_pb (r_S (As := [.int w, .int 0, .int 1]) (rest := []) B hM (ok_in w 0 1) cal_X3_in q1493 rfl hl.1 (Nat.le_of_ble_eq_true rfl) dX3_loser_13 ⟨Nat.le_of_ble_eq_true rfl, Nat.le_of_ble_eq_true rfl⟩ ⟨Nat.le_of_ble_eq_true rfl, Nat.le_of_ble_eq_true rfl⟩) hM (fun H locs b13 hM => ?_) (fun H locs b13 hM => ?_)
    · refine lv_if_ne (tgt := 22) hx hb dX3_loser_16 (by decide) (fun c16 => ?_) (fun cZ => absurd cZ (by decide))
      obtain ⟨kn, hkna, hknb, rfl⟩ := (btw_iff (a := 1) (b := 60) (by decide) (by decide)).mp b4
      have hclkn : cl (nI kn) = kn := cl_nI (by omega)
      have loop1 : ∀ (fu_loop1 : Nat) (i : Nat) (kb : Ka), nC (ka 1000) - i < fu_loop1 → (i ≤ nC (ka 1000)) → (∀ j, j < i → kb 1006 j = fullT (ka 1000) j) → (kb 1000 = ka 1000) → (But [1000, 1004, 1005, 1006, 1023, 1024] ka kb) → ∀ (ls : Array Slot) (H : Heap) (locs : List Loc), lv_has ls 7 [(0, .ref y0), (1, .int (nI kn)), (2, .int w), (3, .int (nI i))] → Md G th rh ph kb H locs → W p_ l e_ (RM 10 0 0) s_ m_ ([.ref y0, .int (nI kn), .int w].toArray) below_ meth_ c_ H locs 0 0 (MQ below_ (Qi G th rh ph (fun r ka' => r = A_loser (sg ka) (nI kn) w ∧ Rel (sg ka) (sg ka'))) ([.ref y0, .int (nI kn), .int w].toArray) s_ 0 0 (frG G)) (F0 m_ 24 ls []) := by
        intro fu_loop1
        induction fu_loop1 with
        | zero => intro i kb hfu; exact absurd hfu (Nat.not_lt_zero _)
        | succ fu_loop1 ih_loop1 =>
          intro i kb hfu_loop1 hi hfw h0 hbu ls H locs hl hM
          refine lv_iload_n hx hb dX3_loser_24 rfl (lv_at hl 3 rfl) ?_
          refine lv_aload_n hx hb dX3_loser_25 rfl (lv_at hl 0 rfl) ?_
          refine r_getq B hM 0 hL.1 rfl (by decide) rfl rfl (hL.2 0 _ _ rfl).1 q1382 dX3_loser_26 ?_
          refine lv_iconst (v := 1) hx hb dX3_loser_29 (by decide) ?_
          refine r_ild B hM 1 (hL.2 0 _ _ rfl).2 rfl (by decide) (by decide) dX3_loser_30 ?_
          refine r_topv (v := (ka 1000) 1) (congrFun h0 _) ?_
          refine lv_icmp_ge (tgt := 51) hx hb dX3_loser_31 (by decide) (fun c31 => ?_) (fun c31 => ?_)
          · have n31 : nC (ka 1000) ≤ i := ntLe (by rw [hR.1.1]) rfl (by omega) (by omega) c31
            refine lv_aload_n hx hb dX3_loser_51 rfl (lv_at hl 0 rfl) ?_
            refine k_v (r_V (As := []) (rest := []) B hM hL.1 rfl rfl (ok_thinks hL) cal_X3_thinks q1665 rfl hl.1 (Nat.le_of_ble_eq_true rfl) dX3_loser_52 ⟨Nat.le_of_ble_eq_true rfl, Nat.le_of_ble_eq_true rfl⟩ ⟨Nat.le_of_ble_eq_true rfl, Nat.le_of_ble_eq_true rfl⟩) hM (fun ka_1 H locs p_2 hM => ?_)
            obtain ⟨ht1, hq⟩ := p_2
            have hT1 : ka_1 1000 = ka 1000 := (hq 1000 (by decide)).trans (h0)
            have hbf1 : ∀ i, i < 107 → ka_1 1005 i = ka 1000 i := fun i hi => by rw [ht1]; exact (if_pos hi).trans (congrFun (h0) i)
            have hB_1 : But [1000, 1004, 1005, 1006, 1023, 1024] ka ka_1 := But.trans hbu (But.mono hq (by decide))
            have hc61 : ka_1 1006 = kb 1006 := (hq 1006 (by decide)).trans rfl
            refine lv_aload_n hx hb dX3_loser_55 rfl (lv_at hl 0 rfl) ?_
            refine lv_iload_n hx hb dX3_loser_56 rfl (lv_at hl 1 rfl) ?_
            refine k_v (r_V (As := [.int (nI kn)]) (rest := []) B hM hL.1 rfl rfl (ok_goesOn hL (by rw [hT1]; exact hR) (n := kn) (by omega)) cal_X3_goesOn q1629 rfl hl.1 (Nat.le_of_ble_eq_true rfl) dX3_loser_57 ⟨Nat.le_of_ble_eq_true rfl, Nat.le_of_ble_eq_true rfl⟩ ⟨Nat.le_of_ble_eq_true rfl, Nat.le_of_ble_eq_true rfl⟩) hM (fun ka_3 H locs p_4 hM => ?_)
            obtain ⟨hf3, hq⟩ := p_4
            have hT3 : ka_3 1000 = hoursT kn (ka 1000) := by rw [hf3, hT1]
            have hbf3 : ∀ i, i < 107 → ka_3 1005 i = ka 1000 i := fun i hi => by rw [hq 1005 (by decide)]; exact hbf1 i hi
            have hB_3 : But [1000, 1004, 1005, 1006, 1023, 1024] ka ka_3 := But.trans hB_1 (But.mono hq (by decide))
            have hc63 : ka_3 1006 = kb 1006 := (hq 1006 (by decide)).trans hc61
            have hfw : ∀ j, j < nC (ka 1000) → ka_3 1006 j = fullT (ka 1000) j := fun j hj => by rw [hc63]; exact hfw j (by omega)
            have loop2 : ∀ (fu_loop2 : Nat) (i : Nat) (best : Int32) (most : Int32), nC (ka 1000) - i < fu_loop2 → (i ≤ nC (ka 1000)) → (itn (loS (ka 1000) (hoursT kn (ka 1000))) i (-1, 0) = (best, most)) → ∀ (ls : Array Slot) (H : Heap) (locs : List Loc), lv_has ls 7 [(0, .ref y0), (1, .int (nI kn)), (2, .int w), (3, .int best), (4, .int most), (5, .int (nI i))] → Md G th rh ph ka_3 H locs → W p_ l e_ (RM 10 0 0) s_ m_ ([.ref y0, .int (nI kn), .int w].toArray) below_ meth_ c_ H locs 0 0 (MQ below_ (Qi G th rh ph (fun r ka' => r = A_loser (sg ka) (nI kn) w ∧ Rel (sg ka) (sg ka'))) ([.ref y0, .int (nI kn), .int w].toArray) s_ 0 0 (frG G)) (F0 m_ 68 ls []) := by
              intro fu_loop2
              induction fu_loop2 with
              | zero => intro i best most hfu; exact absurd hfu (Nat.not_lt_zero _)
              | succ fu_loop2 ih_loop2 =>
                intro i best most hfu_loop2 hi hq2 ls H locs hl hM
                refine lv_iload hx hb dX3_loser_68 (lv_at hl 5 rfl) ?_
                refine lv_aload_n hx hb dX3_loser_70 rfl (lv_at hl 0 rfl) ?_
                refine r_getq B hM 0 hL.1 rfl (by decide) rfl rfl (hL.2 0 _ _ rfl).1 q1382 dX3_loser_71 ?_
                refine lv_iconst (v := 1) hx hb dX3_loser_74 (by decide) ?_
                refine r_ild B hM 1 (hL.2 0 _ _ rfl).2 rfl (by decide) (by decide) dX3_loser_75 ?_
                refine r_topv (v := (hoursT kn (ka 1000)) 1) (congrFun hT3 _) ?_
                refine lv_icmp_ge (tgt := 119) hx hb dX3_loser_76 (by decide) (fun c76 => ?_) (fun c76 => ?_)
                · have n76 : nC (ka 1000) ≤ i := ntLe (by rw [(hoursT_seq hR kn).c1, hR.1.1]) rfl (by omega) (by omega) c76
                  refine lv_aload_n hx hb dX3_loser_119 rfl (lv_at hl 0 rfl) ?_
                  refine k_v (r_V (As := []) (rest := []) B hM hL.1 rfl rfl (ok_putsBack hL) cal_X3_putsBack q1669 rfl hl.1 (Nat.le_of_ble_eq_true rfl) dX3_loser_120 ⟨Nat.le_of_ble_eq_true rfl, Nat.le_of_ble_eq_true rfl⟩ ⟨Nat.le_of_ble_eq_true rfl, Nat.le_of_ble_eq_true rfl⟩) hM (fun ka_5 H locs p_6 hM => ?_)
                  obtain ⟨hp5, hq⟩ := p_6
                  have hT5 : ka_5 1000 = ka 1000 := by rw [hp5, hT3]; exact bk_eq hbf3 (fun i hi => ((hoursT_seq hR kn).tx hi).trans ((fun i _ => rfl) i hi))
                  have hbf5 : ∀ i, i < 107 → ka_5 1005 i = ka 1000 i := fun i hi => by rw [hq 1005 (by decide)]; exact hbf3 i hi
                  have hB_5 : But [1000, 1004, 1005, 1006, 1023, 1024] ka ka_5 := But.trans hB_3 (But.mono hq (by decide))
                  refine lv_iload_n hx hb dX3_loser_123 rfl (lv_at hl 3 rfl) ?_
                  refine lv_if_ge (tgt := 132) hx hb dX3_loser_124 (by decide) (fun c124 => ?_) (fun c124 => ?_)
                  · refine lv_iload_n hx hb dX3_loser_132 rfl (lv_at hl 2 rfl) ?_
                    refine lv_if_ne (tgt := 140) hx hb dX3_loser_133 (by decide) (fun c133 => ?_) (fun c133 => ?_)
                    · refine lv_iload hx hb dX3_loser_140 (lv_at hl 4 rfl) ?_
                      refine r_iret B hr hM dX3_loser_142 ?_
                      have hck : loT (ka 1000) (hoursT kn (ka 1000)) = (best, most) := by unfold loT; rw [← hq2, show i = nC (ka 1000) by omega]
                      constructor
                      · simp only [A_loser, sg0, sg1, sg7, sg25, sg26, sg27, sg28, sg29, sg30, sg31, sg33, sg99, hclkn]; rw [hck]; grind
                      · exact Rel.back hB_5 hT5 (by decide)
                    · refine lv_iload_n hx hb dX3_loser_136 rfl (lv_at hl 3 rfl) ?_
                      refine lv_goto (tgt := 142) hx hb dX3_loser_137 (by decide) ?_
                      refine r_iret B hr hM dX3_loser_142 ?_
                      have hck : loT (ka 1000) (hoursT kn (ka 1000)) = (best, most) := by unfold loT; rw [← hq2, show i = nC (ka 1000) by omega]
                      constructor
                      · simp only [A_loser, sg0, sg1, sg7, sg25, sg26, sg27, sg28, sg29, sg30, sg31, sg33, sg99, hclkn]; rw [hck]; grind
                      · exact Rel.back hB_5 hT5 (by decide)
                  · refine lv_ldc hx hb B.2.2.2.1 (B.ts _ q1681) dX3_loser_127 ?_
                    refine lv_goto (tgt := 142) hx hb dX3_loser_129 (by decide) ?_
                    refine r_iret B hr hM dX3_loser_142 ?_
                    have hck : loT (ka 1000) (hoursT kn (ka 1000)) = (best, most) := by unfold loT; rw [← hq2, show i = nC (ka 1000) by omega]
                    constructor
                    · simp only [A_loser, sg0, sg1, sg7, sg25, sg26, sg27, sg28, sg29, sg30, sg31, sg33, sg99, hclkn]; rw [hck]; grind
                    · exact Rel.back hB_5 hT5 (by decide)
                · have n76 : i < nC (ka 1000) := ntNle (by rw [(hoursT_seq hR kn).c1, hR.1.1]) rfl (by omega) (by omega) c76
                  refine lv_aload_n hx hb dX3_loser_79 rfl (lv_at hl 0 rfl) ?_
                  refine r_getq B hM 6 hL.1 rfl (by decide) rfl rfl (hL.2 6 _ _ rfl).1 q1388 dX3_loser_80 ?_
                  refine lv_iload hx hb dX3_loser_83 (lv_at hl 5 rfl) ?_
                  refine r_ild B hM i (hL.2 6 _ _ rfl).2 rfl (by omega) (by decide) dX3_loser_85 ?_
                  refine lv_aload_n hx hb dX3_loser_86 rfl (lv_at hl 0 rfl) ?_
                  refine lv_iload hx hb dX3_loser_87 (lv_at hl 5 rfl) ?_
                  refine k_pe (v := fullT (ka_3 1000) i) (r_V (As := [.int (nI i)]) (rest := [.int (ka_3 1006 i)]) B hM hL.1 rfl rfl (ok_fullOf hL (c := i) (by omega)) cal_X3_fullOf q1514 rfl hl.1 (Nat.le_of_ble_eq_true rfl) dX3_loser_89 ⟨Nat.le_of_ble_eq_true rfl, Nat.le_of_ble_eq_true rfl⟩ ⟨Nat.le_of_ble_eq_true rfl, Nat.le_of_ble_eq_true rfl⟩) hM (fun H locs hM => ?_)
                  refine r_topv (v := fullT (hoursT kn (ka 1000)) i) (by rw [hT3]) ?_
                  refine lv_isub hx hb dX3_loser_92 ?_
                  refine lv_topi (fun v_7 ev_7 => ?_)
                  refine lv_istore (lv' := [(6, .int v_7), (0, .ref y0), (1, .int (nI kn)), (2, .int w), (3, .int best), (4, .int most), (5, .int (nI i))]) hx hb dX3_loser_93 hl (by decide) rfl (fun ls hl => ?_)
                  refine lv_iload_n hx hb dX3_loser_95 rfl (lv_at hl 4 rfl) ?_
                  refine lv_if_lt (tgt := 106) hx hb dX3_loser_96 (by decide) (fun c96 => ?_) (fun c96 => ?_)
                  · refine lv_iload hx hb dX3_loser_106 (lv_at hl 6 rfl) ?_
                    refine lv_istore_n (lv' := [(3, .int (nI i)), (6, .int v_7), (0, .ref y0), (1, .int (nI kn)), (2, .int w), (4, .int most), (5, .int (nI i))]) hx hb dX3_loser_108 rfl hl (by decide) rfl (fun ls hl => ?_)
                    refine lv_iload hx hb dX3_loser_109 (lv_at hl 1 rfl) ?_
                    refine lv_istore (lv' := [(4, .int v_7), (3, .int (nI i)), (6, .int v_7), (0, .ref y0), (1, .int (nI kn)), (2, .int w), (5, .int (nI i))]) hx hb dX3_loser_111 hl (by decide) rfl (fun ls hl => ?_)
                    refine lv_iinc (v := nI (i + 1)) (lv' := [(5, .int (nI (i + 1))), (4, .int v_7), (3, .int (nI i)), (6, .int v_7), (0, .ref y0), (1, .int (nI kn)), (2, .int w)]) hx hb dX3_loser_113 hl (k := 6) rfl (nI_1 _) (by decide) rfl (fun ls hl => ?_)
                    refine lv_goto (tgt := 68) hx hb dX3_loser_116 (by decide) ?_
                    have hle : v_7 = fullT (ka 1000) i - fullT (hoursT kn (ka 1000)) i := by rw [ev_7, hfw i (by omega)]
                    exact ih_loop2 (i + 1) (nI i) v_7 (by omega) (by omega) (by show loS _ _ i (itn _ i _) = _; rw [hq2, loS, if_pos (by rw [← hle]; exact Or.inl c96), ← hle]) _ _ _ (lv_sub hl [4, 5, 6, 2, 1, 0] rfl) hM
                  · refine lv_iload hx hb dX3_loser_99 (lv_at hl 0 rfl) ?_
                    refine lv_iload hx hb dX3_loser_101 (lv_at hl 5 rfl) ?_
                    refine lv_icmp_le (tgt := 113) hx hb dX3_loser_103 (by decide) (fun c103 => ?_) (fun c103 => ?_)
                    · refine lv_iinc (v := nI (i + 1)) (lv' := [(5, .int (nI (i + 1))), (6, .int v_7), (0, .ref y0), (1, .int (nI kn)), (2, .int w), (3, .int best), (4, .int most)]) hx hb dX3_loser_113 hl (k := 6) rfl (nI_1 _) (by decide) rfl (fun ls hl => ?_)
                      refine lv_goto (tgt := 68) hx hb dX3_loser_116 (by decide) ?_
                      have hle : v_7 = fullT (ka 1000) i - fullT (hoursT kn (ka 1000)) i := by rw [ev_7, hfw i (by omega)]
                      exact ih_loop2 (i + 1) best most (by omega) (by omega) (by show loS _ _ i (itn _ i _) = _; rw [hq2, loS, if_neg (by rw [← hle]; exact fun z => z.elim c96 (i_nlt.mpr c103))]) _ _ _ (lv_sub hl [2, 3, 4, 5, 6, 0] rfl) hM
                    · refine lv_iload hx hb dX3_loser_106 (lv_at hl 6 rfl) ?_
                      refine lv_istore_n (lv' := [(3, .int (nI i)), (6, .int v_7), (0, .ref y0), (1, .int (nI kn)), (2, .int w), (4, .int most), (5, .int (nI i))]) hx hb dX3_loser_108 rfl hl (by decide) rfl (fun ls hl => ?_)
                      refine lv_iload hx hb dX3_loser_109 (lv_at hl 1 rfl) ?_
                      refine lv_istore (lv' := [(4, .int v_7), (3, .int (nI i)), (6, .int v_7), (0, .ref y0), (1, .int (nI kn)), (2, .int w), (5, .int (nI i))]) hx hb dX3_loser_111 hl (by decide) rfl (fun ls hl => ?_)
                      refine lv_iinc (v := nI (i + 1)) (lv' := [(5, .int (nI (i + 1))), (4, .int v_7), (3, .int (nI i)), (6, .int v_7), (0, .ref y0), (1, .int (nI kn)), (2, .int w)]) hx hb dX3_loser_113 hl (k := 6) rfl (nI_1 _) (by decide) rfl (fun ls hl => ?_)
                      refine lv_goto (tgt := 68) hx hb dX3_loser_116 (by decide) ?_
                      have hle : v_7 = fullT (ka 1000) i - fullT (hoursT kn (ka 1000)) i := by rw [ev_7, hfw i (by omega)]
                      exact ih_loop2 (i + 1) (nI i) v_7 (by omega) (by omega) (by show loS _ _ i (itn _ i _) = _; rw [hq2, loS, if_pos (by rw [← hle]; exact Or.inr (i_nle.mp c103)), ← hle]) _ _ _ (lv_sub hl [4, 5, 6, 2, 1, 0] rfl) hM
            refine lv_iconst (v := (-1)) hx hb dX3_loser_60 (by decide) ?_
            refine lv_istore_n (lv' := [(3, .int (-1)), (0, .ref y0), (1, .int (nI kn)), (2, .int w)]) hx hb dX3_loser_61 rfl hl (by decide) rfl (fun ls hl => ?_)
            refine lv_iconst (v := 0) hx hb dX3_loser_62 (by decide) ?_
            refine lv_istore (lv' := [(4, .int 0), (3, .int (-1)), (0, .ref y0), (1, .int (nI kn)), (2, .int w)]) hx hb dX3_loser_63 hl (by decide) rfl (fun ls hl => ?_)
            refine lv_iconst (v := 0) hx hb dX3_loser_65 (by decide) ?_
            refine lv_istore (lv' := [(5, .int 0), (4, .int 0), (3, .int (-1)), (0, .ref y0), (1, .int (nI kn)), (2, .int w)]) hx hb dX3_loser_66 hl (by decide) rfl (fun ls hl => ?_)
            exact loop2 (nC (ka 1000) + 1) 0 (-1) 0 (by omega) (Nat.zero_le _) rfl _ _ _ (lv_sub hl [3, 4, 5, 2, 1, 0] rfl) hM
          · have n31 : i < nC (ka 1000) := ntNle (by rw [hR.1.1]) rfl (by omega) (by omega) c31
            refine lv_aload_n hx hb dX3_loser_34 rfl (lv_at hl 0 rfl) ?_
            refine r_getq B hM 6 hL.1 rfl (by decide) rfl rfl (hL.2 6 _ _ rfl).1 q1388 dX3_loser_35 ?_
            refine lv_iload_n hx hb dX3_loser_38 rfl (lv_at hl 3 rfl) ?_
            refine lv_aload_n hx hb dX3_loser_39 rfl (lv_at hl 0 rfl) ?_
            refine lv_iload_n hx hb dX3_loser_40 rfl (lv_at hl 3 rfl) ?_
            refine k_pe (v := fullT (kb 1000) i) (r_V (As := [.int (nI i)]) (rest := [.int (nI i), .ref (ay 6)]) B hM hL.1 rfl rfl (ok_fullOf hL (c := i) (by omega)) cal_X3_fullOf q1514 rfl hl.1 (Nat.le_of_ble_eq_true rfl) dX3_loser_41 ⟨Nat.le_of_ble_eq_true rfl, Nat.le_of_ble_eq_true rfl⟩ ⟨Nat.le_of_ble_eq_true rfl, Nat.le_of_ble_eq_true rfl⟩) hM (fun H locs hM => ?_)
            refine r_topv (v := fullT (ka 1000) i) (by rw [h0]) ?_
            refine r_ist B hM i (hL.2 6 _ _ rfl).2 rfl (by omega) (by decide) dX3_loser_44 (fun ka_8 H locs eka_8 hM => ?_)
            have hB_8 : But [1000, 1004, 1005, 1006, 1023, 1024] ka ka_8 := But.trans hbu (by rw [eka_8]; exact But.up (by decide))
            refine lv_iinc (v := nI (i + 1)) (lv' := [(3, .int (nI (i + 1))), (0, .ref y0), (1, .int (nI kn)), (2, .int w)]) hx hb dX3_loser_45 hl (k := 3) rfl (nI_1 _) (by decide) rfl (fun ls hl => ?_)
            refine lv_goto (tgt := 24) hx hb dX3_loser_48 (by decide) ?_
            exact ih_loop1 (i + 1) ka_8 (by omega) (by omega) (fw_step eka_8 hfw) (by rw [eka_8, up2_a _ _ _ (by decide)]; exact h0) hB_8 _ _ _ (lv_sub hl [1, 2, 3, 0] rfl) hM
      refine lv_iconst (v := 0) hx hb dX3_loser_22 (by decide) ?_
      refine lv_istore_n (lv' := [(3, .int 0), (0, .ref y0), (1, .int (nI kn)), (2, .int w)]) hx hb dX3_loser_23 rfl hl (by decide) rfl (fun ls hl => ?_)
      exact loop1 (nC (ka 1000) + 1) 0 ka (by omega) (Nat.zero_le _) (fun j hj => absurd hj (Nat.not_lt_zero _)) rfl But.refl _ _ _ (lv_sub hl [1, 2, 3, 0] rfl) hM
    · refine lv_if_ne (tgt := 22) hx hb dX3_loser_16 (by decide) (fun cZ => absurd (by decide) cZ) (fun c16 => ?_)
      refine lv_ldc hx hb B.2.2.2.1 (B.ts _ q1496) dX3_loser_19 ?_
      refine r_iret B hr hM dX3_loser_21 ?_
      constructor
      · simp only [A_loser, sg0, sg1, sg7, sg25, sg26, sg27, sg28, sg29, sg30, sg31, sg33, sg99] <;> grind
      · exact Rel.refl
  · refine lv_if_eq (tgt := 19) hx hb dX3_loser_7 (by decide) (fun c7 => ?_) (fun cZ => absurd (by decide) cZ)
    refine lv_ldc hx hb B.2.2.2.1 (B.ts _ q1496) dX3_loser_19 ?_
    refine r_iret B hr hM dX3_loser_21 ?_
    constructor
    · simp only [A_loser, sg0, sg1, sg7, sg25, sg26, sg27, sg28, sg29, sg30, sg31, sg33, sg99] <;> grind
    · exact Rel.refl
set_option maxHeartbeats 4000000 in
theorem ok_tap (hL : LayM th rh y0 ay) (hR : Rok (ka 1000)) (c n : Int32) : Met l yX3_tap (ws_ yX3_tap cX3_tap 5 (some .int)) (RM 11 0 0) (Pc_ G [.ref y0, .int c, .int n] th rh ph ka) (Qi G th rh ph (fun r ka' => r = A_tap (sg ka) c n ∧ Rel (sg ka) (sg ka'))) 0 0 (frG G) := by
  refine m_of (by decide) (Nat.le_of_ble_eq_true rfl) ?_
  intro p_ e_ s_ m_ below_ meth_ c_ B hr hnm ls hl hM
  have hx := B.1
  have hb := B.2.1
  have hM := hM
  have h8 := hR.1.2
  have h13 := hR.2.1.2
  have h14 := hR.2.2.1.2
  refine lv_aload_n hx hb dX3_tap_0 rfl (lv_at hl 0 rfl) ?_
  refine lv_iload_n hx hb dX3_tap_1 rfl (lv_at hl 1 rfl) ?_
  refine k_pb (r_V (As := [.int c]) (rest := []) B hM hL.1 rfl rfl (ok_isCellar hL hR c) cal_X3_isCellar q1506 rfl hl.1 (Nat.le_of_ble_eq_true rfl) dX3_tap_2 ⟨Nat.le_of_ble_eq_true rfl, Nat.le_of_ble_eq_true rfl⟩ ⟨Nat.le_of_ble_eq_true rfl, Nat.le_of_ble_eq_true rfl⟩) hM (fun H locs b2 hM => ?_) (fun H locs b2 hM => ?_)
  · obtain ⟨kc, hkc, rfl⟩ := b2
    have hinkc : inC (nI kc) (nC (ka 1000)) := (inC_iff (by omega)).mpr ⟨kc, hkc, rfl⟩
    have hclkc : cl (nI kc) = kc := cl_nI (by omega)
    refine lv_if_eq (tgt := 18) hx hb dX3_tap_5 (by decide) (fun cZ => absurd cZ (by decide)) (fun c5 => ?_)
    refine lv_iload_n hx hb dX3_tap_8 rfl (lv_at hl 2 rfl) ?_
    refine lv_iconst (v := 1) hx hb dX3_tap_9 (by decide) ?_
    refine lv_bipush (v := 60) hx hb dX3_tap_10 (by decide) ?_
    refine k_pb (r_S (As := [.int n, .int 1, .int 60]) (rest := []) B hM (ok_in n 1 60) cal_X3_in q1493 rfl hl.1 (Nat.le_of_ble_eq_true rfl) dX3_tap_12 ⟨Nat.le_of_ble_eq_true rfl, Nat.le_of_ble_eq_true rfl⟩ ⟨Nat.le_of_ble_eq_true rfl, Nat.le_of_ble_eq_true rfl⟩) hM (fun H locs b12 hM => ?_) (fun H locs b12 hM => ?_)
    · refine lv_if_ne (tgt := 21) hx hb dX3_tap_15 (by decide) (fun c15 => ?_) (fun cZ => absurd cZ (by decide))
      obtain ⟨kn, hkna, hknb, rfl⟩ := (btw_iff (a := 1) (b := 60) (by decide) (by decide)).mp b12
      have hclkn : cl (nI kn) = kn := cl_nI (by omega)
      refine lv_aload_n hx hb dX3_tap_21 rfl (lv_at hl 0 rfl) ?_
      refine k_v (r_V (As := []) (rest := []) B hM hL.1 rfl rfl (ok_thinks hL) cal_X3_thinks q1665 rfl hl.1 (Nat.le_of_ble_eq_true rfl) dX3_tap_22 ⟨Nat.le_of_ble_eq_true rfl, Nat.le_of_ble_eq_true rfl⟩ ⟨Nat.le_of_ble_eq_true rfl, Nat.le_of_ble_eq_true rfl⟩) hM (fun ka_1 H locs p_2 hM => ?_)
      obtain ⟨ht1, hq⟩ := p_2
      have hT1 : ka_1 1000 = ka 1000 := (hq 1000 (by decide))
      have hbf1 : ∀ i, i < 107 → ka_1 1005 i = ka 1000 i := fun i hi => by rw [ht1]; exact if_pos hi
      have hB_1 : But [1000, 1004, 1005, 1023, 1024] ka ka_1 := But.trans But.refl (But.mono hq (by decide))
      refine lv_aload_n hx hb dX3_tap_25 rfl (lv_at hl 0 rfl) ?_
      refine lv_iload_n hx hb dX3_tap_26 rfl (lv_at hl 1 rfl) ?_
      refine lv_iload_n hx hb dX3_tap_27 rfl (lv_at hl 2 rfl) ?_
      refine k_i (r_V (As := [.int (nI kc), .int (nI kn)]) (rest := []) B hM hL.1 rfl rfl (ok_othersBehind hL (by rw [hT1]; exact hR) (c := kc) (n := kn) (by omega) (by omega)) cal_X3_othersBehind q1702 rfl hl.1 (Nat.le_of_ble_eq_true rfl) dX3_tap_28 ⟨Nat.le_of_ble_eq_true rfl, Nat.le_of_ble_eq_true rfl⟩ ⟨Nat.le_of_ble_eq_true rfl, Nat.le_of_ble_eq_true rfl⟩) hM (fun r_3 ka_4 H locs p_5 hM => ?_)
      obtain ⟨hr1, hpp, hq⟩ := p_5
      rw [hT1] at hr1 hpp
      subst hr1
      have hT4 : ka_4 1000 = ka 1000 := by rw [hpp]; exact bk_eq hbf1 (fun i _ => rfl)
      have hbf4 : ∀ i, i < 107 → ka_4 1005 i = ka 1000 i := fun i hi => by rw [hq 1005 (by decide)]; exact hbf1 i hi
      have hB_4 : But [1000, 1004, 1005, 1023, 1024] ka ka_4 := But.trans hB_1 (But.mono hq (by decide))
      refine lv_topi (fun v_6 ev_6 => ?_)
      refine lv_istore_n (lv' := [(3, .int v_6), (0, .ref y0), (1, .int (nI kc)), (2, .int (nI kn))]) hx hb dX3_tap_31 rfl hl (by decide) rfl (fun ls hl => ?_)
      refine lv_iconst (v := 0) hx hb dX3_tap_32 (by decide) ?_
      refine lv_istore (lv' := [(4, .int 0), (3, .int v_6), (0, .ref y0), (1, .int (nI kc)), (2, .int (nI kn))]) hx hb dX3_tap_33 hl (by decide) rfl (fun ls hl => ?_)
      refine lv_iload hx hb dX3_tap_35 (lv_at hl 0 rfl) ?_
      refine lv_iconst (v := 3) hx hb dX3_tap_37 (by decide) ?_
      refine lv_icmp_ge (tgt := 65) hx hb dX3_tap_38 (by decide) (fun cZ => absurd cZ (by decide)) (fun c38 => ?_)
      refine lv_aload_n hx hb dX3_tap_41 rfl (lv_at hl 2 rfl) ?_
      refine r_getq B hM 0 hL.1 rfl (by decide) rfl rfl (hL.2 0 _ _ rfl).1 q1382 dX3_tap_42 ?_
      refine lv_bipush (v := 7) hx hb dX3_tap_45 (by decide) ?_
      refine lv_bipush (v := 6) hx hb dX3_tap_47 (by decide) ?_
      refine lv_iload_n hx hb dX3_tap_49 rfl (lv_at hl 3 rfl) ?_
      refine lv_imul hx hb dX3_tap_50 ?_
      refine lv_iadd hx hb dX3_tap_51 ?_
      refine lv_iconst (v := 3) hx hb dX3_tap_52 (by decide) ?_
      refine lv_iadd hx hb dX3_tap_53 ?_
      refine lv_iload hx hb dX3_tap_54 (lv_at hl 0 rfl) ?_
      refine lv_iadd hx hb dX3_tap_56 ?_
      refine lv_iconst (v := 0) hx hb dX3_tap_57 (by decide) ?_
      refine r_ist B hM (7 + 6 * kc + 3) (hL.2 0 _ _ rfl).2 (by simp only [nA, nMu, nL]; grind) (by omega) (by decide) dX3_tap_58 (fun ka_7 H locs eka_7 hM => ?_)
      have hB_7 : But [1000, 1004, 1005, 1023, 1024] ka ka_7 := But.trans hB_4 (by rw [eka_7]; exact But.up (by decide))
      refine lv_iinc (v := 1) (lv' := [(4, .int 1), (3, .int v_6), (0, .ref y0), (1, .int (nI kc)), (2, .int (nI kn))]) hx hb dX3_tap_59 hl (k := 0) rfl (by decide) (by decide) rfl (fun ls hl => ?_)
      refine lv_goto (tgt := 35) hx hb dX3_tap_62 (by decide) ?_
      refine lv_iload hx hb dX3_tap_35 (lv_at hl 0 rfl) ?_
      refine lv_iconst (v := 3) hx hb dX3_tap_37 (by decide) ?_
      refine lv_icmp_ge (tgt := 65) hx hb dX3_tap_38 (by decide) (fun cZ => absurd cZ (by decide)) (fun c38 => ?_)
      refine lv_aload_n hx hb dX3_tap_41 rfl (lv_at hl 2 rfl) ?_
      refine r_getq B hM 0 hL.1 rfl (by decide) rfl rfl (hL.2 0 _ _ rfl).1 q1382 dX3_tap_42 ?_
      refine lv_bipush (v := 7) hx hb dX3_tap_45 (by decide) ?_
      refine lv_bipush (v := 6) hx hb dX3_tap_47 (by decide) ?_
      refine lv_iload_n hx hb dX3_tap_49 rfl (lv_at hl 3 rfl) ?_
      refine lv_imul hx hb dX3_tap_50 ?_
      refine lv_iadd hx hb dX3_tap_51 ?_
      refine lv_iconst (v := 3) hx hb dX3_tap_52 (by decide) ?_
      refine lv_iadd hx hb dX3_tap_53 ?_
      refine lv_iload hx hb dX3_tap_54 (lv_at hl 0 rfl) ?_
      refine lv_iadd hx hb dX3_tap_56 ?_
      refine lv_iconst (v := 0) hx hb dX3_tap_57 (by decide) ?_
      refine r_ist B hM (7 + 6 * kc + 4) (hL.2 0 _ _ rfl).2 (by simp only [nA, nMu, nL]; grind) (by omega) (by decide) dX3_tap_58 (fun ka_8 H locs eka_8 hM => ?_)
      have hB_8 : But [1000, 1004, 1005, 1023, 1024] ka ka_8 := But.trans hB_7 (by rw [eka_8]; exact But.up (by decide))
      refine lv_iinc (v := 2) (lv' := [(4, .int 2), (3, .int v_6), (0, .ref y0), (1, .int (nI kc)), (2, .int (nI kn))]) hx hb dX3_tap_59 hl (k := 0) rfl (by decide) (by decide) rfl (fun ls hl => ?_)
      refine lv_goto (tgt := 35) hx hb dX3_tap_62 (by decide) ?_
      refine lv_iload hx hb dX3_tap_35 (lv_at hl 0 rfl) ?_
      refine lv_iconst (v := 3) hx hb dX3_tap_37 (by decide) ?_
      refine lv_icmp_ge (tgt := 65) hx hb dX3_tap_38 (by decide) (fun cZ => absurd cZ (by decide)) (fun c38 => ?_)
      refine lv_aload_n hx hb dX3_tap_41 rfl (lv_at hl 2 rfl) ?_
      refine r_getq B hM 0 hL.1 rfl (by decide) rfl rfl (hL.2 0 _ _ rfl).1 q1382 dX3_tap_42 ?_
      refine lv_bipush (v := 7) hx hb dX3_tap_45 (by decide) ?_
      refine lv_bipush (v := 6) hx hb dX3_tap_47 (by decide) ?_
      refine lv_iload_n hx hb dX3_tap_49 rfl (lv_at hl 3 rfl) ?_
      refine lv_imul hx hb dX3_tap_50 ?_
      refine lv_iadd hx hb dX3_tap_51 ?_
      refine lv_iconst (v := 3) hx hb dX3_tap_52 (by decide) ?_
      refine lv_iadd hx hb dX3_tap_53 ?_
      refine lv_iload hx hb dX3_tap_54 (lv_at hl 0 rfl) ?_
      refine lv_iadd hx hb dX3_tap_56 ?_
      refine lv_iconst (v := 0) hx hb dX3_tap_57 (by decide) ?_
      refine r_ist B hM (7 + 6 * kc + 5) (hL.2 0 _ _ rfl).2 (by simp only [nA, nMu, nL]; grind) (by omega) (by decide) dX3_tap_58 (fun ka_9 H locs eka_9 hM => ?_)
      have hB_9 : But [1000, 1004, 1005, 1023, 1024] ka ka_9 := But.trans hB_8 (by rw [eka_9]; exact But.up (by decide))
      refine lv_iinc (v := 3) (lv' := [(4, .int 3), (3, .int v_6), (0, .ref y0), (1, .int (nI kc)), (2, .int (nI kn))]) hx hb dX3_tap_59 hl (k := 0) rfl (by decide) (by decide) rfl (fun ls hl => ?_)
      refine lv_goto (tgt := 35) hx hb dX3_tap_62 (by decide) ?_
      refine lv_iload hx hb dX3_tap_35 (lv_at hl 0 rfl) ?_
      refine lv_iconst (v := 3) hx hb dX3_tap_37 (by decide) ?_
      refine lv_icmp_ge (tgt := 65) hx hb dX3_tap_38 (by decide) (fun c38 => ?_) (fun cZ => absurd (by decide) cZ)
      have hT9x : ka_9 1000 = emT (ka 1000) kc := by
        funext i; simp only [eka_9, eka_8, eka_7, up2, emT, hT4]; grind
      have hbf9x : ∀ i, i < 107 → ka_9 1005 i = ka 1000 i := fun i hi => by simp only [eka_9, eka_8, eka_7, up2_a _ _ _ (show 1005 ≠ 1000 by decide)]; exact hbf4 i hi
      refine lv_iload_n hx hb dX3_tap_65 rfl (lv_at hl 1 rfl) ?_
      refine lv_aload_n hx hb dX3_tap_66 rfl (lv_at hl 2 rfl) ?_
      refine lv_iload_n hx hb dX3_tap_67 rfl (lv_at hl 3 rfl) ?_
      refine lv_iload_n hx hb dX3_tap_68 rfl (lv_at hl 4 rfl) ?_
      refine k_i (r_V (As := [.int (nI kc), .int (nI kn)]) (rest := [.int v_6]) B hM hL.1 rfl rfl (ok_othersBehind hL (by rw [hT9x]; exact ((emT_seq (by omega)).rok hR)) (c := kc) (n := kn) (by omega) (by omega)) cal_X3_othersBehind q1702 rfl hl.1 (Nat.le_of_ble_eq_true rfl) dX3_tap_69 ⟨Nat.le_of_ble_eq_true rfl, Nat.le_of_ble_eq_true rfl⟩ ⟨Nat.le_of_ble_eq_true rfl, Nat.le_of_ble_eq_true rfl⟩) hM (fun r_10 ka_11 H locs p_12 hM => ?_)
      obtain ⟨hr1, hpp, hq⟩ := p_12
      rw [hT9x] at hr1 hpp
      subst hr1
      have hT11 : ka_11 1000 = ka 1000 := by rw [hpp]; exact bk_eq hbf9x (fun i hi => (emT_seq (by omega)).tx hi)
      have hbf11 : ∀ i, i < 107 → ka_11 1005 i = ka 1000 i := fun i hi => by rw [hq 1005 (by decide)]; exact hbf9x i hi
      have hB_11 : But [1000, 1004, 1005, 1023, 1024] ka ka_11 := But.trans hB_9 (But.mono hq (by decide))
      refine lv_isub hx hb dX3_tap_72 ?_
      refine r_iret B hr hM dX3_tap_73 ?_
      constructor
      · rw [ev_6]; simp only [A_tap, sg0, sg1, sg7, sg25, sg26, sg27, sg28, sg29, sg30, sg31, sg33, sg99, hclkc, hclkn]; rw [if_neg (by grind)]
      · exact Rel.back hB_11 hT11 (by decide)
    · refine lv_if_ne (tgt := 21) hx hb dX3_tap_15 (by decide) (fun cZ => absurd (by decide) cZ) (fun c15 => ?_)
      refine lv_ldc hx hb B.2.2.2.1 (B.ts _ q1496) dX3_tap_18 ?_
      refine r_iret B hr hM dX3_tap_20 ?_
      constructor
      · simp only [A_tap, sg0, sg1, sg7, sg25, sg26, sg27, sg28, sg29, sg30, sg31, sg33, sg99, hclkc] <;> grind
      · exact Rel.refl
  · refine lv_if_eq (tgt := 18) hx hb dX3_tap_5 (by decide) (fun c5 => ?_) (fun cZ => absurd (by decide) cZ)
    refine lv_ldc hx hb B.2.2.2.1 (B.ts _ q1496) dX3_tap_18 ?_
    refine r_iret B hr hM dX3_tap_20 ?_
    have ib2 := mt (inC_iff (n := nC (ka 1000)) (by omega)).mp b2
    constructor
    · simp only [A_tap, sg0, sg1, sg7, sg25, sg26, sg27, sg28, sg29, sg30, sg31, sg33, sg99] <;> grind
    · exact Rel.refl
set_option maxHeartbeats 4000000 in
theorem ok_dug (hL : LayM th rh y0 ay) (hS : Sok (sg ka)) (sh c w : Int32) : Met l yX3_dug (ws_ yX3_dug cX3_dug 10 (some .int)) (RM 10 0 0) (Pc_ G [.ref y0, .int sh, .int c, .int w] th rh ph ka) (Qi G th rh ph (fun r ka' => r = A_dug (sg ka) sh c w ∧ Rel (sg ka) (sg ka'))) 0 0 (frG G) := by
  refine m_of (by decide) (Nat.le_of_ble_eq_true rfl) ?_
  intro p_ e_ s_ m_ below_ meth_ c_ B hr hnm ls hl hM
  have hx := B.1
  have hb := B.2.1
  have hM := hM
  have hR := hS.r
  have h8 := hR.1.2
  have h13 := hR.2.1.2
  have h14 := hR.2.2.1.2
  refine lv_iload_n hx hb dX3_dug_0 rfl (lv_at hl 1 rfl) ?_
  refine k_pb (r_S (As := [.int sh]) (rest := []) B hM (ok_isSheet sh) cal_X3_isSheet q1710 rfl hl.1 (Nat.le_of_ble_eq_true rfl) dX3_dug_1 ⟨Nat.le_of_ble_eq_true rfl, Nat.le_of_ble_eq_true rfl⟩ ⟨Nat.le_of_ble_eq_true rfl, Nat.le_of_ble_eq_true rfl⟩) hM (fun H locs b1 hM => ?_) (fun H locs b1 hM => ?_)
  · obtain ⟨ksh, hksh, rfl⟩ := b1
    have hinksh : inC (nI ksh) (4) := (inC_iff (by omega)).mpr ⟨ksh, hksh, rfl⟩
    have hclksh : cl (nI ksh) = ksh := cl_nI (by omega)
    refine lv_if_eq (tgt := 24) hx hb dX3_dug_4 (by decide) (fun cZ => absurd cZ (by decide)) (fun c4 => ?_)
    refine lv_aload_n hx hb dX3_dug_7 rfl (lv_at hl 0 rfl) ?_
    refine lv_iload_n hx hb dX3_dug_8 rfl (lv_at hl 2 rfl) ?_
    refine k_pb (r_V (As := [.int c]) (rest := []) B hM hL.1 rfl rfl (ok_isCellar hL hR c) cal_X3_isCellar q1506 rfl hl.1 (Nat.le_of_ble_eq_true rfl) dX3_dug_9 ⟨Nat.le_of_ble_eq_true rfl, Nat.le_of_ble_eq_true rfl⟩ ⟨Nat.le_of_ble_eq_true rfl, Nat.le_of_ble_eq_true rfl⟩) hM (fun H locs b9 hM => ?_) (fun H locs b9 hM => ?_)
    · obtain ⟨kc, hkc, rfl⟩ := b9
      have hinkc : inC (nI kc) (nC (ka 1000)) := (inC_iff (by omega)).mpr ⟨kc, hkc, rfl⟩
      have hclkc : cl (nI kc) = kc := cl_nI (by omega)
      refine lv_if_eq (tgt := 24) hx hb dX3_dug_12 (by decide) (fun cZ => absurd cZ (by decide)) (fun c12 => ?_)
      refine lv_iload_n hx hb dX3_dug_15 rfl (lv_at hl 3 rfl) ?_
      refine lv_iconst (v := 0) hx hb dX3_dug_16 (by decide) ?_
      refine lv_iconst (v := 1) hx hb dX3_dug_17 (by decide) ?_
      refine k_pb (r_S (As := [.int w, .int 0, .int 1]) (rest := []) B hM (ok_in w 0 1) cal_X3_in q1493 rfl hl.1 (Nat.le_of_ble_eq_true rfl) dX3_dug_18 ⟨Nat.le_of_ble_eq_true rfl, Nat.le_of_ble_eq_true rfl⟩ ⟨Nat.le_of_ble_eq_true rfl, Nat.le_of_ble_eq_true rfl⟩) hM (fun H locs b18 hM => ?_) (fun H locs b18 hM => ?_)
      · refine lv_if_ne (tgt := 27) hx hb dX3_dug_21 (by decide) (fun c21 => ?_) (fun cZ => absurd cZ (by decide))
        refine lv_aload_n hx hb dX3_dug_27 rfl (lv_at hl 0 rfl) ?_
        refine r_getq B hM 25 hL.1 rfl (by decide) rfl rfl (hL.2 25 _ _ rfl).1 q1407 dX3_dug_28 ?_
        refine lv_iload_n hx hb dX3_dug_31 rfl (lv_at hl 1 rfl) ?_
        refine r_ild B hM ksh (hL.2 25 _ _ rfl).2 rfl (by omega) (by decide) dX3_dug_32 ?_
        refine lv_if_ge (tgt := 39) hx hb dX3_dug_33 (by decide) (fun c33 => ?_) (fun c33 => ?_)
        · obtain ⟨z, hz24, hz⟩ := hS.sz hksh
          have hclz : cl (ka 1026 ksh) = z := by rw [hz]; exact cl_nI (by omega)
          have loop : ∀ (fu_loop : Nat) (i : Nat) (best : Int32) (least : Int64) (kb : Ka), nP (ka 1000) - i < fu_loop → (i ≤ nP (ka 1000)) → (itn (dugS (sg ka) ksh kc) i (-1, (offT (ka 1027) ksh kc z (ka 1000)).2) = (best, least)) → (kb 1000 = ka 1000) → (∀ j, j < 107 → kb 1005 j = ka 1000 j) → (But [1000, 1004, 1005, 1023, 1024] ka kb) → ∀ (ls : Array Slot) (H : Heap) (locs : List Loc), lv_has ls 10 [(0, .ref y0), (1, .int (nI ksh)), (2, .int (nI kc)), (3, .int w), (4, .int best), (5, .long least), (7, .int (nI i))] → Md G th rh ph kb H locs → W p_ l e_ (RM 10 0 0) s_ m_ ([.ref y0, .int (nI ksh), .int (nI kc), .int w].toArray) below_ meth_ c_ H locs 0 0 (MQ below_ (Qi G th rh ph (fun r ka' => r = A_dug (sg ka) (nI ksh) (nI kc) w ∧ Rel (sg ka) (sg ka'))) ([.ref y0, .int (nI ksh), .int (nI kc), .int w].toArray) s_ 0 0 (frG G)) (F0 m_ 57 ls []) := by
            intro fu_loop
            induction fu_loop with
            | zero => intro i best least kb hfu; exact absurd hfu (Nat.not_lt_zero _)
            | succ fu_loop ih_loop =>
              intro i best least kb hfu_loop hi hq2 hT hbf hbu ls H locs hl hM
              refine lv_iload hx hb dX3_dug_57 (lv_at hl 6 rfl) ?_
              refine lv_aload_n hx hb dX3_dug_59 rfl (lv_at hl 0 rfl) ?_
              refine r_getq B hM 0 hL.1 rfl (by decide) rfl rfl (hL.2 0 _ _ rfl).1 q1382 dX3_dug_60 ?_
              refine lv_iconst (v := 2) hx hb dX3_dug_63 (by decide) ?_
              refine r_ild B hM 2 (hL.2 0 _ _ rfl).2 rfl (by decide) (by decide) dX3_dug_64 ?_
              refine r_topv (v := (ka 1000) 2) (congrFun hT _) ?_
              refine lv_icmp_ge (tgt := 131) hx hb dX3_dug_65 (by decide) (fun c65 => ?_) (fun c65 => ?_)
              · have n65 : nP (ka 1000) ≤ i := ntLe (by rw [hR.2.1.1]) rfl (by omega) (by omega) c65
                refine lv_iload_n hx hb dX3_dug_131 rfl (lv_at hl 3 rfl) ?_
                refine lv_if_ne (tgt := 143) hx hb dX3_dug_132 (by decide) (fun c132 => ?_) (fun c132 => ?_)
                · refine lv_lload hx hb dX3_dug_143 (lv_at hl 5 rfl) ?_
                  refine lv_l2i hx hb dX3_dug_145 rfl ?_
                  refine r_iret B hr hM dX3_dug_146 ?_
                  have hck : dugT (sg ka) ksh kc = (best, least) := by unfold dugT; simp only [sg0, sg1, sg7, sg25, sg26, sg27, sg28, sg29, sg30, sg31, sg33, sg99]; rw [hclz, ← hq2, show i = nP (ka 1000) by omega]
                  constructor
                  · simp only [A_dug, sg0, sg1, sg7, sg25, sg26, sg27, sg28, sg29, sg30, sg31, sg33, sg99, hclksh, hclkc]; rw [hck]; grind
                  · exact Rel.back hbu hT (by decide)
                · refine lv_iload hx hb dX3_dug_135 (lv_at hl 4 rfl) ?_
                  refine k_pe (v := none0 best) (r_S (As := [.int best]) (rest := []) B hM (ok_told0 best) cal_X3_told0 q1718 rfl hl.1 (Nat.le_of_ble_eq_true rfl) dX3_dug_137 ⟨Nat.le_of_ble_eq_true rfl, Nat.le_of_ble_eq_true rfl⟩ ⟨Nat.le_of_ble_eq_true rfl, Nat.le_of_ble_eq_true rfl⟩) hM (fun H locs hM => ?_)
                  refine lv_goto (tgt := 146) hx hb dX3_dug_140 (by decide) ?_
                  refine r_iret B hr hM dX3_dug_146 ?_
                  have hck : dugT (sg ka) ksh kc = (best, least) := by unfold dugT; simp only [sg0, sg1, sg7, sg25, sg26, sg27, sg28, sg29, sg30, sg31, sg33, sg99]; rw [hclz, ← hq2, show i = nP (ka 1000) by omega]
                  constructor
                  · simp only [A_dug, sg0, sg1, sg7, sg25, sg26, sg27, sg28, sg29, sg30, sg31, sg33, sg99, hclksh, hclkc]; rw [hck]; grind
                  · exact Rel.back hbu hT (by decide)
              · have n65 : i < nP (ka 1000) := ntNle (by rw [hR.2.1.1]) rfl (by omega) (by omega) c65
                refine lv_aload_n hx hb dX3_dug_68 rfl (lv_at hl 0 rfl) ?_
                refine r_getq B hM 0 hL.1 rfl (by decide) rfl rfl (hL.2 0 _ _ rfl).1 q1382 dX3_dug_69 ?_
                refine lv_bipush (v := 55) hx hb dX3_dug_72 (by decide) ?_
                refine lv_iconst (v := 4) hx hb dX3_dug_74 (by decide) ?_
                refine lv_iload hx hb dX3_dug_75 (lv_at hl 6 rfl) ?_
                refine lv_imul hx hb dX3_dug_77 ?_
                refine lv_iadd hx hb dX3_dug_78 ?_
                refine lv_iconst (v := 3) hx hb dX3_dug_79 (by decide) ?_
                refine lv_iadd hx hb dX3_dug_80 ?_
                refine lv_iconst (v := 1) hx hb dX3_dug_81 (by decide) ?_
                refine r_ist B hM (55 + 4 * i + 3) (hL.2 0 _ _ rfl).2 (by simp only [nA, nMu, nL]) (by omega) (by decide) dX3_dug_82 (fun ka_1 H locs eka_1 hM => ?_)
                have hB_1 : But [1000, 1004, 1005, 1023, 1024] ka ka_1 := But.trans hbu (by rw [eka_1]; exact But.up (by decide))
                have hT1 : ka_1 1000 = rw1 (ka 1000) (55 + 4 * i + 3) 1 := by rw [eka_1, up2_row, hT]; rfl
                have hbf1 : ∀ i, i < 107 → ka_1 1005 i = ka 1000 i := fun i hi => by rw [eka_1, up2_a _ _ _ (by decide)]; exact hbf i hi
                refine lv_aload_n hx hb dX3_dug_83 rfl (lv_at hl 0 rfl) ?_
                refine lv_iload_n hx hb dX3_dug_84 rfl (lv_at hl 1 rfl) ?_
                refine lv_iload_n hx hb dX3_dug_85 rfl (lv_at hl 2 rfl) ?_
                refine k_l (r_V (As := [.int (nI ksh), .int (nI kc)]) (rest := []) B hM hL.1 rfl rfl (ok_offBy hL (by rw [hT1]; exact (hR.cork (by omega) 1)) (sh := ksh) (c := kc) (z := z) (by omega) (by omega) hz24 (by rw [hB_1 1026 (by decide)]; exact hz)) cal_X3_offBy q1714 rfl hl.1 (Nat.le_of_ble_eq_true rfl) dX3_dug_86 ⟨Nat.le_of_ble_eq_true rfl, Nat.le_of_ble_eq_true rfl⟩ ⟨Nat.le_of_ble_eq_true rfl, Nat.le_of_ble_eq_true rfl⟩) hM (fun r_2 ka_3 H locs p_4 hM => ?_)
                obtain ⟨hr1, hpp, hq⟩ := p_4
                rw [hB_1 1027 (by decide), hT1] at hr1
                rw [hT1] at hpp
                subst hr1
                have hT3 : ka_3 1000 = ka 1000 := by rw [hpp]; exact bk_eq hbf1 (rw1_107 (by omega) 1)
                have hbf3 : ∀ i, i < 107 → ka_3 1005 i = ka 1000 i := fun i hi => by rw [hq 1005 (by decide)]; exact hbf1 i hi
                have hB_3 : But [1000, 1004, 1005, 1023, 1024] ka ka_3 := But.trans hB_1 (But.mono hq (by decide))
                refine lv_topl (fun v_5 ev_5 => ?_)
                refine lv_lstore (lv' := [(8, .long v_5), (0, .ref y0), (1, .int (nI ksh)), (2, .int (nI kc)), (3, .int w), (4, .int best), (5, .long least), (7, .int (nI i))]) hx hb dX3_dug_89 hl (by decide) rfl (fun ls hl => ?_)
                refine lv_lload hx hb dX3_dug_91 (lv_at hl 0 rfl) ?_
                refine lv_lload hx hb dX3_dug_93 (lv_at hl 6 rfl) ?_
                refine W.lcmp hx hb dX3_dug_95 ?_
                refine lv_if_ge (tgt := 104) hx hb dX3_dug_96 (by decide) (fun c96 => ?_) (fun c96 => ?_)
                · refine lv_iload hx hb dX3_dug_104 (lv_at hl 5 rfl) ?_
                  refine lv_istore (lv' := [(4, .int best), (8, .long v_5), (0, .ref y0), (1, .int (nI ksh)), (2, .int (nI kc)), (3, .int w), (5, .long least), (7, .int (nI i))]) hx hb dX3_dug_106 hl (by decide) rfl (fun ls hl => ?_)
                  refine lv_lload hx hb dX3_dug_108 (lv_at hl 1 rfl) ?_
                  refine lv_lload hx hb dX3_dug_110 (lv_at hl 6 rfl) ?_
                  refine W.lcmp hx hb dX3_dug_112 ?_
                  refine lv_if_ge (tgt := 121) hx hb dX3_dug_113 (by decide) (fun c113 => ?_) (fun cZ => absurd c96 cZ)
                  refine lv_lload hx hb dX3_dug_121 (lv_at hl 6 rfl) ?_
                  refine lv_lstore (lv' := [(5, .long least), (4, .int best), (8, .long v_5), (0, .ref y0), (1, .int (nI ksh)), (2, .int (nI kc)), (3, .int w), (7, .int (nI i))]) hx hb dX3_dug_123 hl (by decide) rfl (fun ls hl => ?_)
                  refine lv_iinc (v := nI (i + 1)) (lv' := [(7, .int (nI (i + 1))), (5, .long least), (4, .int best), (8, .long v_5), (0, .ref y0), (1, .int (nI ksh)), (2, .int (nI kc)), (3, .int w)]) hx hb dX3_dug_125 hl (k := 7) rfl (nI_1 _) (by decide) rfl (fun ls hl => ?_)
                  refine lv_goto (tgt := 57) hx hb dX3_dug_128 (by decide) ?_
                  exact ih_loop (i + 1) best least ka_3 (by omega) (by omega) (by show dugS _ _ _ i (itn _ i _) = _; rw [hq2]; simp only [dugS, sg0, sg1, sg7, sg25, sg26, sg27, sg28, sg29, sg30, sg31, sg33, sg99, hclz]; rw [if_neg (by rw [← ev_5]; exact l64nlt c96)]) hT3 hbf3 hB_3 _ _ _ (lv_sub hl [4, 5, 6, 7, 2, 1, 0] rfl) hM
                · refine lv_iload hx hb dX3_dug_99 (lv_at hl 7 rfl) ?_
                  refine lv_goto (tgt := 106) hx hb dX3_dug_101 (by decide) ?_
                  refine lv_istore (lv' := [(4, .int (nI i)), (8, .long v_5), (0, .ref y0), (1, .int (nI ksh)), (2, .int (nI kc)), (3, .int w), (5, .long least), (7, .int (nI i))]) hx hb dX3_dug_106 hl (by decide) rfl (fun ls hl => ?_)
                  refine lv_lload hx hb dX3_dug_108 (lv_at hl 1 rfl) ?_
                  refine lv_lload hx hb dX3_dug_110 (lv_at hl 6 rfl) ?_
                  refine W.lcmp hx hb dX3_dug_112 ?_
                  refine lv_if_ge (tgt := 121) hx hb dX3_dug_113 (by decide) (fun cZ => absurd cZ c96) (fun c113 => ?_)
                  refine lv_lload hx hb dX3_dug_116 (lv_at hl 1 rfl) ?_
                  refine lv_goto (tgt := 123) hx hb dX3_dug_118 (by decide) ?_
                  refine lv_lstore (lv' := [(5, .long v_5), (4, .int (nI i)), (8, .long v_5), (0, .ref y0), (1, .int (nI ksh)), (2, .int (nI kc)), (3, .int w), (7, .int (nI i))]) hx hb dX3_dug_123 hl (by decide) rfl (fun ls hl => ?_)
                  refine lv_iinc (v := nI (i + 1)) (lv' := [(7, .int (nI (i + 1))), (5, .long v_5), (4, .int (nI i)), (8, .long v_5), (0, .ref y0), (1, .int (nI ksh)), (2, .int (nI kc)), (3, .int w)]) hx hb dX3_dug_125 hl (k := 7) rfl (nI_1 _) (by decide) rfl (fun ls hl => ?_)
                  refine lv_goto (tgt := 57) hx hb dX3_dug_128 (by decide) ?_
                  exact ih_loop (i + 1) (nI i) v_5 ka_3 (by omega) (by omega) (by show dugS _ _ _ i (itn _ i _) = _; rw [hq2]; simp only [dugS, sg0, sg1, sg7, sg25, sg26, sg27, sg28, sg29, sg30, sg31, sg33, sg99, hclz]; rw [if_pos (by rw [← ev_5]; exact l64lt c96), ← ev_5]) hT3 hbf3 hB_3 _ _ _ (lv_sub hl [4, 5, 6, 7, 2, 1, 0] rfl) hM
          refine lv_aload_n hx hb dX3_dug_39 rfl (lv_at hl 0 rfl) ?_
          refine k_v (r_V (As := []) (rest := []) B hM hL.1 rfl rfl (ok_thinks hL) cal_X3_thinks q1665 rfl hl.1 (Nat.le_of_ble_eq_true rfl) dX3_dug_40 ⟨Nat.le_of_ble_eq_true rfl, Nat.le_of_ble_eq_true rfl⟩ ⟨Nat.le_of_ble_eq_true rfl, Nat.le_of_ble_eq_true rfl⟩) hM (fun ka_6 H locs p_7 hM => ?_)
          obtain ⟨ht1, hq⟩ := p_7
          have hT6 : ka_6 1000 = ka 1000 := (hq 1000 (by decide))
          have hbf6 : ∀ i, i < 107 → ka_6 1005 i = ka 1000 i := fun i hi => by rw [ht1]; exact if_pos hi
          have hB_6 : But [1000, 1004, 1005, 1023, 1024] ka ka_6 := But.trans But.refl (But.mono hq (by decide))
          refine lv_iconst (v := (-1)) hx hb dX3_dug_43 (by decide) ?_
          refine lv_istore (lv' := [(4, .int (-1)), (0, .ref y0), (1, .int (nI ksh)), (2, .int (nI kc)), (3, .int w)]) hx hb dX3_dug_44 hl (by decide) rfl (fun ls hl => ?_)
          refine lv_aload_n hx hb dX3_dug_46 rfl (lv_at hl 1 rfl) ?_
          refine lv_iload_n hx hb dX3_dug_47 rfl (lv_at hl 2 rfl) ?_
          refine lv_iload_n hx hb dX3_dug_48 rfl (lv_at hl 3 rfl) ?_
          refine k_l (r_V (As := [.int (nI ksh), .int (nI kc)]) (rest := []) B hM hL.1 rfl rfl (ok_offBy hL (by rw [hT6]; exact hR) (sh := ksh) (c := kc) (z := z) (by omega) (by omega) hz24 (by rw [hB_6 1026 (by decide)]; exact hz)) cal_X3_offBy q1714 rfl hl.1 (Nat.le_of_ble_eq_true rfl) dX3_dug_49 ⟨Nat.le_of_ble_eq_true rfl, Nat.le_of_ble_eq_true rfl⟩ ⟨Nat.le_of_ble_eq_true rfl, Nat.le_of_ble_eq_true rfl⟩) hM (fun r_8 ka_9 H locs p_10 hM => ?_)
          obtain ⟨hr1, hpp, hq⟩ := p_10
          rw [hB_6 1027 (by decide), hT6] at hr1
          rw [hT6] at hpp
          subst hr1
          have hT9 : ka_9 1000 = ka 1000 := by rw [hpp]; exact bk_eq hbf6 (fun i _ => rfl)
          have hbf9 : ∀ i, i < 107 → ka_9 1005 i = ka 1000 i := fun i hi => by rw [hq 1005 (by decide)]; exact hbf6 i hi
          have hB_9 : But [1000, 1004, 1005, 1023, 1024] ka ka_9 := But.trans hB_6 (But.mono hq (by decide))
          refine lv_topl (fun v_11 ev_11 => ?_)
          refine lv_lstore (lv' := [(5, .long v_11), (4, .int (-1)), (0, .ref y0), (1, .int (nI ksh)), (2, .int (nI kc)), (3, .int w)]) hx hb dX3_dug_52 hl (by decide) rfl (fun ls hl => ?_)
          refine lv_iconst (v := 0) hx hb dX3_dug_54 (by decide) ?_
          refine lv_istore (lv' := [(7, .int 0), (5, .long v_11), (4, .int (-1)), (0, .ref y0), (1, .int (nI ksh)), (2, .int (nI kc)), (3, .int w)]) hx hb dX3_dug_55 hl (by decide) rfl (fun ls hl => ?_)
          exact loop (nP (ka 1000) + 1) 0 (-1) v_11 ka_9 (by omega) (Nat.zero_le _) (by rw [ev_11]; rfl) hT9 hbf9 hB_9 _ _ _ (lv_sub hl [3, 4, 5, 6, 2, 1, 0] rfl) hM
        · refine lv_ldc hx hb B.2.2.2.1 (B.ts _ q1713) dX3_dug_36 ?_
          refine r_iret B hr hM dX3_dug_38 ?_
          constructor
          · simp only [A_dug, sg0, sg1, sg7, sg25, sg26, sg27, sg28, sg29, sg30, sg31, sg33, sg99, hclksh, hclkc] <;> grind
          · exact Rel.refl
      · refine lv_if_ne (tgt := 27) hx hb dX3_dug_21 (by decide) (fun cZ => absurd (by decide) cZ) (fun c21 => ?_)
        refine lv_ldc hx hb B.2.2.2.1 (B.ts _ q1496) dX3_dug_24 ?_
        refine r_iret B hr hM dX3_dug_26 ?_
        constructor
        · simp only [A_dug, sg0, sg1, sg7, sg25, sg26, sg27, sg28, sg29, sg30, sg31, sg33, sg99, hclksh, hclkc] <;> grind
        · exact Rel.refl
    · refine lv_if_eq (tgt := 24) hx hb dX3_dug_12 (by decide) (fun c12 => ?_) (fun cZ => absurd (by decide) cZ)
      refine lv_ldc hx hb B.2.2.2.1 (B.ts _ q1496) dX3_dug_24 ?_
      refine r_iret B hr hM dX3_dug_26 ?_
      have ib9 := mt (inC_iff (n := nC (ka 1000)) (by omega)).mp b9
      constructor
      · simp only [A_dug, sg0, sg1, sg7, sg25, sg26, sg27, sg28, sg29, sg30, sg31, sg33, sg99, hclksh] <;> grind
      · exact Rel.refl
  · refine lv_if_eq (tgt := 24) hx hb dX3_dug_4 (by decide) (fun c4 => ?_) (fun cZ => absurd (by decide) cZ)
    refine lv_ldc hx hb B.2.2.2.1 (B.ts _ q1496) dX3_dug_24 ?_
    refine r_iret B hr hM dX3_dug_26 ?_
    have ib1 := mt (inC_iff (n := 4) (by omega)).mp b1
    constructor
    · simp only [A_dug, sg0, sg1, sg7, sg25, sg26, sg27, sg28, sg29, sg30, sg31, sg33, sg99] <;> grind
    · exact Rel.refl
set_option maxHeartbeats 4000000 in
theorem ok_dig (hL : LayM th rh y0 ay) (hR : Rok (ka 1000)) (h12 : nP (ka 1000) ≤ 12) (n w : Int32) : Met l yX3_dig (ws_ yX3_dig cX3_dig 8 (some .int)) (RM 10 0 0) (Pc_ G [.ref y0, .int n, .int w] th rh ph ka) (Qi G th rh ph (fun r ka' => r = A_dig (sg ka) n w ∧ Rel (sg ka) (sg ka'))) 0 0 (frG G) := by
  refine m_of (by decide) (Nat.le_of_ble_eq_true rfl) ?_
  intro p_ e_ s_ m_ below_ meth_ c_ B hr hnm ls hl hM
  have hx := B.1
  have hb := B.2.1
  have hM := hM
  have h8 := hR.1.2
  have h13 := hR.2.1.2
  have h14 := hR.2.2.1.2
  refine lv_iload_n hx hb dX3_dig_0 rfl (lv_at hl 1 rfl) ?_
  refine lv_iconst (v := 1) hx hb dX3_dig_1 (by decide) ?_
  refine lv_bipush (v := 40) hx hb dX3_dig_2 (by decide) ?_
  refine k_pb (r_S (As := [.int n, .int 1, .int 40]) (rest := []) B hM (ok_in n 1 40) cal_X3_in q1493 rfl hl.1 (Nat.le_of_ble_eq_true rfl) dX3_dig_4 ⟨Nat.le_of_ble_eq_true rfl, Nat.le_of_ble_eq_true rfl⟩ ⟨Nat.le_of_ble_eq_true rfl, Nat.le_of_ble_eq_true rfl⟩) hM (fun H locs b4 hM => ?_) (fun H locs b4 hM => ?_)
  · refine lv_if_eq (tgt := 19) hx hb dX3_dig_7 (by decide) (fun cZ => absurd cZ (by decide)) (fun c7 => ?_)
    refine lv_iload_n hx hb dX3_dig_10 rfl (lv_at hl 2 rfl) ?_
    refine lv_iconst (v := 0) hx hb dX3_dig_11 (by decide) ?_
    refine lv_iconst (v := 1) hx hb dX3_dig_12 (by decide) ?_
    refine k_pb (r_S (As := [.int w, .int 0, .int 1]) (rest := []) B hM (ok_in w 0 1) cal_X3_in q1493 rfl hl.1 (Nat.le_of_ble_eq_true rfl) dX3_dig_13 ⟨Nat.le_of_ble_eq_true rfl, Nat.le_of_ble_eq_true rfl⟩ ⟨Nat.le_of_ble_eq_true rfl, Nat.le_of_ble_eq_true rfl⟩) hM (fun H locs b13 hM => ?_) (fun H locs b13 hM => ?_)
    · refine lv_if_ne (tgt := 22) hx hb dX3_dig_16 (by decide) (fun c16 => ?_) (fun cZ => absurd cZ (by decide))
      obtain ⟨kn, hkna, hknb, rfl⟩ := (btw_iff (a := 1) (b := 40) (by decide) (by decide)).mp b4
      have hclkn : cl (nI kn) = kn := cl_nI (by omega)
      have loop1 : ∀ (fu_loop1 : Nat) (i : Nat) (best : Int32) (least : Int32) (kb : Ka), nC (ka 1000) - i < fu_loop1 → (i ≤ nC (ka 1000)) → (itn (fun a q => itn (dgS (ka 1000) kn a) (nC (ka 1000)) q) i (-1, 0) = (best, least)) → (kb 1000 = ka 1000) → (∀ j, j < 107 → kb 1005 j = ka 1000 j) → (But [1000, 1004, 1005, 1023, 1024] ka kb) → ∀ (ls : Array Slot) (H : Heap) (locs : List Loc), lv_has ls 8 [(0, .ref y0), (1, .int (nI kn)), (2, .int w), (3, .int best), (4, .int least), (5, .int (nI i))] → Md G th rh ph kb H locs → W p_ l e_ (RM 10 0 0) s_ m_ ([.ref y0, .int (nI kn), .int w].toArray) below_ meth_ c_ H locs 0 0 (MQ below_ (Qi G th rh ph (fun r ka' => r = A_dig (sg ka) (nI kn) w ∧ Rel (sg ka) (sg ka'))) ([.ref y0, .int (nI kn), .int w].toArray) s_ 0 0 (frG G)) (F0 m_ 34 ls []) := by
        intro fu_loop1
        induction fu_loop1 with
        | zero => intro i best least kb hfu; exact absurd hfu (Nat.not_lt_zero _)
        | succ fu_loop1 ih_loop1 =>
          intro i best least kb hfu_loop1 hi hq2 hT hbf hbu ls H locs hl hM
          refine lv_iload hx hb dX3_dig_34 (lv_at hl 5 rfl) ?_
          refine lv_aload_n hx hb dX3_dig_36 rfl (lv_at hl 0 rfl) ?_
          refine r_getq B hM 0 hL.1 rfl (by decide) rfl rfl (hL.2 0 _ _ rfl).1 q1382 dX3_dig_37 ?_
          refine lv_iconst (v := 1) hx hb dX3_dig_40 (by decide) ?_
          refine r_ild B hM 1 (hL.2 0 _ _ rfl).2 rfl (by decide) (by decide) dX3_dig_41 ?_
          refine r_topv (v := (ka 1000) 1) (congrFun hT _) ?_
          refine lv_icmp_ge (tgt := 151) hx hb dX3_dig_42 (by decide) (fun c42 => ?_) (fun c42 => ?_)
          · have n42 : nC (ka 1000) ≤ i := ntLe (by rw [hR.1.1]) rfl (by omega) (by omega) c42
            refine lv_iload_n hx hb dX3_dig_151 rfl (lv_at hl 3 rfl) ?_
            refine lv_if_ge (tgt := 160) hx hb dX3_dig_152 (by decide) (fun c152 => ?_) (fun c152 => ?_)
            · refine lv_iload_n hx hb dX3_dig_160 rfl (lv_at hl 2 rfl) ?_
              refine lv_if_ne (tgt := 168) hx hb dX3_dig_161 (by decide) (fun c161 => ?_) (fun c161 => ?_)
              · refine lv_iload hx hb dX3_dig_168 (lv_at hl 4 rfl) ?_
                refine r_iret B hr hM dX3_dig_170 ?_
                have hck : dgT (ka 1000) kn = (best, least) := by unfold dgT; rw [← hq2, show i = nC (ka 1000) by omega]
                constructor
                · simp only [A_dig, sg0, sg1, sg7, sg25, sg26, sg27, sg28, sg29, sg30, sg31, sg33, sg99, hclkn]; rw [hck]; grind
                · exact Rel.back hbu hT (by decide)
              · refine lv_iload_n hx hb dX3_dig_164 rfl (lv_at hl 3 rfl) ?_
                refine lv_goto (tgt := 170) hx hb dX3_dig_165 (by decide) ?_
                refine r_iret B hr hM dX3_dig_170 ?_
                have hck : dgT (ka 1000) kn = (best, least) := by unfold dgT; rw [← hq2, show i = nC (ka 1000) by omega]
                constructor
                · simp only [A_dig, sg0, sg1, sg7, sg25, sg26, sg27, sg28, sg29, sg30, sg31, sg33, sg99, hclkn]; rw [hck]; grind
                · exact Rel.back hbu hT (by decide)
            · refine lv_ldc hx hb B.2.2.2.1 (B.ts _ q1681) dX3_dig_155 ?_
              refine lv_goto (tgt := 170) hx hb dX3_dig_157 (by decide) ?_
              refine r_iret B hr hM dX3_dig_170 ?_
              have hck : dgT (ka 1000) kn = (best, least) := by unfold dgT; rw [← hq2, show i = nC (ka 1000) by omega]
              constructor
              · simp only [A_dig, sg0, sg1, sg7, sg25, sg26, sg27, sg28, sg29, sg30, sg31, sg33, sg99, hclkn]; rw [hck]; grind
              · exact Rel.back hbu hT (by decide)
          · have n42 : i < nC (ka 1000) := ntNle (by rw [hR.1.1]) rfl (by omega) (by omega) c42
            have loop2 : ∀ (fu_loop2 : Nat) (j : Nat) (best : Int32) (least : Int32) (kb : Ka), nC (ka 1000) - j < fu_loop2 → (i < j) → (j ≤ nC (ka 1000)) → (itn (dgS (ka 1000) kn i) j (itn (fun a q => itn (dgS (ka 1000) kn a) (nC (ka 1000)) q) i (-1, 0)) = (best, least)) → (kb 1000 = ka 1000) → (∀ j, j < 107 → kb 1005 j = ka 1000 j) → (But [1000, 1004, 1005, 1023, 1024] ka kb) → ∀ (ls : Array Slot) (H : Heap) (locs : List Loc), lv_has ls 8 [(0, .ref y0), (1, .int (nI kn)), (2, .int w), (3, .int best), (4, .int least), (5, .int (nI i)), (6, .int (nI j))] → Md G th rh ph kb H locs → W p_ l e_ (RM 10 0 0) s_ m_ ([.ref y0, .int (nI kn), .int w].toArray) below_ meth_ c_ H locs 0 0 (MQ below_ (Qi G th rh ph (fun r ka' => r = A_dig (sg ka) (nI kn) w ∧ Rel (sg ka) (sg ka'))) ([.ref y0, .int (nI kn), .int w].toArray) s_ 0 0 (frG G)) (F0 m_ 51 ls []) := by
              intro fu_loop2
              induction fu_loop2 with
              | zero => intro j best least kb hfu; exact absurd hfu (Nat.not_lt_zero _)
              | succ fu_loop2 ih_loop2 =>
                intro j best least kb hfu_loop2 hij hj hq3 hT hbf hbu ls H locs hl hM
                refine lv_iload hx hb dX3_dig_51 (lv_at hl 6 rfl) ?_
                refine lv_aload_n hx hb dX3_dig_53 rfl (lv_at hl 0 rfl) ?_
                refine r_getq B hM 0 hL.1 rfl (by decide) rfl rfl (hL.2 0 _ _ rfl).1 q1382 dX3_dig_54 ?_
                refine lv_iconst (v := 1) hx hb dX3_dig_57 (by decide) ?_
                refine r_ild B hM 1 (hL.2 0 _ _ rfl).2 rfl (by decide) (by decide) dX3_dig_58 ?_
                refine r_topv (v := (ka 1000) 1) (congrFun hT _) ?_
                refine lv_icmp_ge (tgt := 145) hx hb dX3_dig_59 (by decide) (fun c59 => ?_) (fun c59 => ?_)
                · have n59 : nC (ka 1000) ≤ j := ntLe (by rw [hR.1.1]) rfl (by omega) (by omega) c59
                  refine lv_iinc (v := nI (i + 1)) (lv' := [(5, .int (nI (i + 1))), (0, .ref y0), (1, .int (nI kn)), (2, .int w), (3, .int best), (4, .int least), (6, .int (nI j))]) hx hb dX3_dig_145 hl (k := 5) rfl (nI_1 _) (by decide) rfl (fun ls hl => ?_)
                  refine lv_goto (tgt := 34) hx hb dX3_dig_148 (by decide) ?_
                  exact ih_loop1 (i + 1) best least kb (by omega) (by omega) (by show itn _ _ (itn (fun a q => itn (dgS (ka 1000) kn a) (nC (ka 1000)) q) i (-1, 0)) = _; rw [← hq3, show j = nC (ka 1000) by omega]) hT hbf hbu _ _ _ (lv_sub hl [1, 2, 3, 4, 5, 0] rfl) hM
                · have n59 : j < nC (ka 1000) := ntNle (by rw [hR.1.1]) rfl (by omega) (by omega) c59
                  refine lv_aload_n hx hb dX3_dig_62 rfl (lv_at hl 0 rfl) ?_
                  refine lv_iload hx hb dX3_dig_63 (lv_at hl 5 rfl) ?_
                  refine lv_iload hx hb dX3_dig_65 (lv_at hl 6 rfl) ?_
                  refine k_pb (r_V (As := [.int (nI i), .int (nI j)]) (rest := []) B hM hL.1 rfl rfl (ok_areJoined hL (by rw [hT]; exact hR) (a := i) (b := j)) cal_X3_areJoined q1690 rfl hl.1 (Nat.le_of_ble_eq_true rfl) dX3_dig_67 ⟨Nat.le_of_ble_eq_true rfl, Nat.le_of_ble_eq_true rfl⟩ ⟨Nat.le_of_ble_eq_true rfl, Nat.le_of_ble_eq_true rfl⟩) hM (fun H locs b67 hM => ?_) (fun H locs b67 hM => ?_)
                  · rw [hT] at b67
                    refine lv_if_ne (tgt := 139) hx hb dX3_dig_70 (by decide) (fun c70 => ?_) (fun cZ => absurd cZ (by decide))
                    refine lv_iinc (v := nI (j + 1)) (lv' := [(6, .int (nI (j + 1))), (0, .ref y0), (1, .int (nI kn)), (2, .int w), (3, .int best), (4, .int least), (5, .int (nI i))]) hx hb dX3_dig_139 hl (k := 6) rfl (nI_1 _) (by decide) rfl (fun ls hl => ?_)
                    refine lv_goto (tgt := 51) hx hb dX3_dig_142 (by decide) ?_
                    exact ih_loop2 (j + 1) best least kb (by omega) (by omega) (by omega) (by show dgS _ _ i j (itn _ j _) = _; rw [hq3, dgS, if_neg (fun z => by rw [dgB_iff.mpr b67] at z; exact absurd z.2 (by decide))]) hT hbf hbu _ _ _ (lv_sub hl [1, 2, 3, 4, 5, 6, 0] rfl) hM
                  · rw [hT] at b67
                    refine lv_if_ne (tgt := 139) hx hb dX3_dig_70 (by decide) (fun cZ => absurd (by decide) cZ) (fun c70 => ?_)
                    refine lv_aload_n hx hb dX3_dig_73 rfl (lv_at hl 0 rfl) ?_
                    refine lv_aload_n hx hb dX3_dig_74 rfl (lv_at hl 0 rfl) ?_
                    refine r_getq B hM 0 hL.1 rfl (by decide) rfl rfl (hL.2 0 _ _ rfl).1 q1382 dX3_dig_75 ?_
                    refine lv_iconst (v := 2) hx hb dX3_dig_78 (by decide) ?_
                    refine r_ild B hM 2 (hL.2 0 _ _ rfl).2 rfl (by decide) (by decide) dX3_dig_79 ?_
                    refine r_topv (v := (ka 1000) 2) (congrFun hT _) ?_
                    refine lv_iload hx hb dX3_dig_80 (lv_at hl 5 rfl) ?_
                    refine lv_iload hx hb dX3_dig_82 (lv_at hl 6 rfl) ?_
                    refine lv_iconst (v := 3) hx hb dX3_dig_84 (by decide) ?_
                    refine W.eq (g2 := F0 m_ 85 ls [.int 3, .int (nI j), .int (nI i), .int (nI (nP (ka 1000))), .ref y0]) (by rw [hR.2.1.1]) ?_
                    refine k_v (r_V (As := [.int (nI (nP (ka 1000))), .int (nI i), .int (nI j), .int 3]) (rest := []) B hM hL.1 rfl rfl (ok_lays hL (q := nP (ka 1000)) (by omega) (nI i) (nI j) 3) cal_X3_lays q1580 rfl hl.1 (Nat.le_of_ble_eq_true rfl) dX3_dig_85 ⟨Nat.le_of_ble_eq_true rfl, Nat.le_of_ble_eq_true rfl⟩ ⟨Nat.le_of_ble_eq_true rfl, Nat.le_of_ble_eq_true rfl⟩) hM (fun ka_1 H locs p_2 hM => ?_)
                    have el := p_2
                    have hq : But [1000] kb ka_1 := by rw [el]; exact fun a ha => up1_a _ _ (fun z => ha (List.mem_singleton.mpr z))
                    have hT1 : ka_1 1000 = layT (ka 1000) (nP (ka 1000)) (nI i) (nI j) 3 := by rw [el, up1_s, hT]
                    have hbf1 : ∀ i, i < 107 → ka_1 1005 i = ka 1000 i := fun i hi => by rw [hq 1005 (by decide)]; exact hbf i hi
                    have hB_1 : But [1000, 1004, 1005, 1023, 1024] ka ka_1 := But.trans hbu (But.mono hq (by decide))
                    refine lv_aload_n hx hb dX3_dig_88 rfl (lv_at hl 0 rfl) ?_
                    refine r_getq B hM 0 hL.1 rfl (by decide) rfl rfl (hL.2 0 _ _ rfl).1 q1382 dX3_dig_89 ?_
                    refine lv_iconst (v := 2) hx hb dX3_dig_92 (by decide) ?_
                    refine lv_dup2_11 hx hb dX3_dig_93 rfl rfl ?_
                    refine r_ild B hM 2 (hL.2 0 _ _ rfl).2 rfl (by decide) (by decide) dX3_dig_94 ?_
                    refine r_topv (v := (layT (ka 1000) (nP (ka 1000)) (nI i) (nI j) 3) 2) (congrFun hT1 _) ?_
                    refine r_topv (v := ka 1000 2) (by unfold layT; rw [if_neg (by omega), if_neg (by omega), if_neg (by omega), if_neg (by omega)]) ?_
                    refine lv_iconst (v := 1) hx hb dX3_dig_95 (by decide) ?_
                    refine lv_iadd hx hb dX3_dig_96 ?_
                    refine r_ist B hM 2 (hL.2 0 _ _ rfl).2 rfl (by decide) (by decide) dX3_dig_97 (fun ka_3 H locs eka_3 hM => ?_)
                    have hB_3 : But [1000, 1004, 1005, 1023, 1024] ka ka_3 := But.trans hB_1 (by rw [eka_3]; exact But.up (by decide))
                    have hT3 : ka_3 1000 = plT (ka 1000) i j 3 := by rw [eka_3, up2_row, hT1]; rfl
                    have hbf3 : ∀ i, i < 107 → ka_3 1005 i = ka 1000 i := fun i hi => by rw [eka_3, up2_a _ _ _ (by decide)]; exact hbf1 i hi
                    obtain ⟨hRl, hnl, hcl1⟩ := hR.lay h12 (a := i) (b := j) (by omega) (by omega) 3
                    refine lv_aload_n hx hb dX3_dig_98 rfl (lv_at hl 0 rfl) ?_
                    refine lv_iload_n hx hb dX3_dig_99 rfl (lv_at hl 1 rfl) ?_
                    refine k_v (r_V (As := [.int (nI kn)]) (rest := []) B hM hL.1 rfl rfl (ok_goesOn hL (by rw [hT3]; exact hRl) (n := kn) (by omega)) cal_X3_goesOn q1629 rfl hl.1 (Nat.le_of_ble_eq_true rfl) dX3_dig_100 ⟨Nat.le_of_ble_eq_true rfl, Nat.le_of_ble_eq_true rfl⟩ ⟨Nat.le_of_ble_eq_true rfl, Nat.le_of_ble_eq_true rfl⟩) hM (fun ka_4 H locs p_5 hM => ?_)
                    obtain ⟨hf4, hq⟩ := p_5
                    have hT4 : ka_4 1000 = hoursT kn (plT (ka 1000) i j 3) := by rw [hf4, hT3]
                    have hbf4 : ∀ i, i < 107 → ka_4 1005 i = ka 1000 i := fun i hi => by rw [hq 1005 (by decide)]; exact hbf3 i hi
                    have hB_4 : But [1000, 1004, 1005, 1023, 1024] ka ka_4 := But.trans hB_3 (But.mono hq (by decide))
                    refine lv_aload_n hx hb dX3_dig_103 rfl (lv_at hl 0 rfl) ?_
                    refine r_getq B hM 0 hL.1 rfl (by decide) rfl rfl (hL.2 0 _ _ rfl).1 q1382 dX3_dig_104 ?_
                    refine lv_iconst (v := 5) hx hb dX3_dig_107 (by decide) ?_
                    refine r_ild B hM 5 (hL.2 0 _ _ rfl).2 rfl (by decide) (by decide) dX3_dig_108 ?_
                    refine r_topv (v := (hoursT kn (plT (ka 1000) i j 3)) 5) (congrFun hT4 _) ?_
                    refine lv_topi (fun v_6 ev_6 => ?_)
                    refine lv_istore (lv' := [(7, .int v_6), (0, .ref y0), (1, .int (nI kn)), (2, .int w), (3, .int best), (4, .int least), (5, .int (nI i)), (6, .int (nI j))]) hx hb dX3_dig_109 hl (by decide) rfl (fun ls hl => ?_)
                    refine lv_aload_n hx hb dX3_dig_111 rfl (lv_at hl 1 rfl) ?_
                    refine k_v (r_V (As := []) (rest := []) B hM hL.1 rfl rfl (ok_putsBack hL) cal_X3_putsBack q1669 rfl hl.1 (Nat.le_of_ble_eq_true rfl) dX3_dig_112 ⟨Nat.le_of_ble_eq_true rfl, Nat.le_of_ble_eq_true rfl⟩ ⟨Nat.le_of_ble_eq_true rfl, Nat.le_of_ble_eq_true rfl⟩) hM (fun ka_7 H locs p_8 hM => ?_)
                    obtain ⟨hp7, hq⟩ := p_8
                    have hT7 : ka_7 1000 = ka 1000 := by rw [hp7, hT4]; exact bk_eq hbf4 (fun i hi => ((hoursT_seq hRl kn).tx hi).trans ((fun x hx => plT_at (by omega) (by omega)) i hi))
                    have hbf7 : ∀ i, i < 107 → ka_7 1005 i = ka 1000 i := fun i hi => by rw [hq 1005 (by decide)]; exact hbf4 i hi
                    have hB_7 : But [1000, 1004, 1005, 1023, 1024] ka ka_7 := But.trans hB_4 (But.mono hq (by decide))
                    refine lv_iload_n hx hb dX3_dig_115 rfl (lv_at hl 4 rfl) ?_
                    refine lv_if_lt (tgt := 126) hx hb dX3_dig_116 (by decide) (fun c116 => ?_) (fun c116 => ?_)
                    · refine lv_bipush (v := 10) hx hb dX3_dig_126 (by decide) ?_
                      refine lv_iload hx hb dX3_dig_128 (lv_at hl 6 rfl) ?_
                      refine lv_imul hx hb dX3_dig_130 ?_
                      refine lv_iload hx hb dX3_dig_131 (lv_at hl 7 rfl) ?_
                      refine lv_iadd hx hb dX3_dig_133 ?_
                      refine lv_istore_n (lv' := [(3, .int ((10 * (nI i)) + (nI j))), (7, .int v_6), (0, .ref y0), (1, .int (nI kn)), (2, .int w), (4, .int least), (5, .int (nI i)), (6, .int (nI j))]) hx hb dX3_dig_134 rfl hl (by decide) rfl (fun ls hl => ?_)
                      refine lv_iload hx hb dX3_dig_135 (lv_at hl 1 rfl) ?_
                      refine lv_istore (lv' := [(4, .int v_6), (3, .int ((10 * (nI i)) + (nI j))), (7, .int v_6), (0, .ref y0), (1, .int (nI kn)), (2, .int w), (5, .int (nI i)), (6, .int (nI j))]) hx hb dX3_dig_137 hl (by decide) rfl (fun ls hl => ?_)
                      refine lv_iinc (v := nI (j + 1)) (lv' := [(6, .int (nI (j + 1))), (4, .int v_6), (3, .int ((10 * (nI i)) + (nI j))), (7, .int v_6), (0, .ref y0), (1, .int (nI kn)), (2, .int w), (5, .int (nI i))]) hx hb dX3_dig_139 hl (k := 7) rfl (nI_1 _) (by decide) rfl (fun ls hl => ?_)
                      refine lv_goto (tgt := 51) hx hb dX3_dig_142 (by decide) ?_
                      have hsp : v_6 = dgU (ka 1000) kn i j 5 := ev_6
                      exact ih_loop2 (j + 1) ((10 * (nI i)) + (nI j)) v_6 ka_7 (by omega) (by omega) (by omega) (by show dgS _ _ i j (itn _ j _) = _; rw [hq3, dgS, if_pos ⟨by omega, (Bool.not_eq_true _).mp (mt dgB_iff.mp b67)⟩, if_pos (by rw [← hsp]; exact Or.inl c116), ← hsp]) hT7 hbf7 hB_7 _ _ _ (lv_sub hl [4, 5, 6, 2, 1, 7, 0] rfl) hM
                    · refine lv_iload hx hb dX3_dig_119 (lv_at hl 0 rfl) ?_
                      refine lv_iload hx hb dX3_dig_121 (lv_at hl 5 rfl) ?_
                      refine lv_icmp_ge (tgt := 139) hx hb dX3_dig_123 (by decide) (fun c123 => ?_) (fun c123 => ?_)
                      · refine lv_iinc (v := nI (j + 1)) (lv' := [(6, .int (nI (j + 1))), (7, .int v_6), (0, .ref y0), (1, .int (nI kn)), (2, .int w), (3, .int best), (4, .int least), (5, .int (nI i))]) hx hb dX3_dig_139 hl (k := 7) rfl (nI_1 _) (by decide) rfl (fun ls hl => ?_)
                        refine lv_goto (tgt := 51) hx hb dX3_dig_142 (by decide) ?_
                        have hsp : v_6 = dgU (ka 1000) kn i j 5 := ev_6
                        exact ih_loop2 (j + 1) best least ka_7 (by omega) (by omega) (by omega) (by show dgS _ _ i j (itn _ j _) = _; rw [hq3, dgS, if_pos ⟨by omega, (Bool.not_eq_true _).mp (mt dgB_iff.mp b67)⟩, if_neg (by rw [← hsp]; exact fun z => z.elim c116 (i_nlt.mpr c123))]) hT7 hbf7 hB_7 _ _ _ (lv_sub hl [2, 3, 4, 5, 6, 7, 0] rfl) hM
                      · refine lv_bipush (v := 10) hx hb dX3_dig_126 (by decide) ?_
                        refine lv_iload hx hb dX3_dig_128 (lv_at hl 6 rfl) ?_
                        refine lv_imul hx hb dX3_dig_130 ?_
                        refine lv_iload hx hb dX3_dig_131 (lv_at hl 7 rfl) ?_
                        refine lv_iadd hx hb dX3_dig_133 ?_
                        refine lv_istore_n (lv' := [(3, .int ((10 * (nI i)) + (nI j))), (7, .int v_6), (0, .ref y0), (1, .int (nI kn)), (2, .int w), (4, .int least), (5, .int (nI i)), (6, .int (nI j))]) hx hb dX3_dig_134 rfl hl (by decide) rfl (fun ls hl => ?_)
                        refine lv_iload hx hb dX3_dig_135 (lv_at hl 1 rfl) ?_
                        refine lv_istore (lv' := [(4, .int v_6), (3, .int ((10 * (nI i)) + (nI j))), (7, .int v_6), (0, .ref y0), (1, .int (nI kn)), (2, .int w), (5, .int (nI i)), (6, .int (nI j))]) hx hb dX3_dig_137 hl (by decide) rfl (fun ls hl => ?_)
                        refine lv_iinc (v := nI (j + 1)) (lv' := [(6, .int (nI (j + 1))), (4, .int v_6), (3, .int ((10 * (nI i)) + (nI j))), (7, .int v_6), (0, .ref y0), (1, .int (nI kn)), (2, .int w), (5, .int (nI i))]) hx hb dX3_dig_139 hl (k := 7) rfl (nI_1 _) (by decide) rfl (fun ls hl => ?_)
                        refine lv_goto (tgt := 51) hx hb dX3_dig_142 (by decide) ?_
                        have hsp : v_6 = dgU (ka 1000) kn i j 5 := ev_6
                        exact ih_loop2 (j + 1) ((10 * (nI i)) + (nI j)) v_6 ka_7 (by omega) (by omega) (by omega) (by show dgS _ _ i j (itn _ j _) = _; rw [hq3, dgS, if_pos ⟨by omega, (Bool.not_eq_true _).mp (mt dgB_iff.mp b67)⟩, if_pos (by rw [← hsp]; exact Or.inr (i_nle.mp c123)), ← hsp]) hT7 hbf7 hB_7 _ _ _ (lv_sub hl [4, 5, 6, 2, 1, 7, 0] rfl) hM
            refine lv_iload hx hb dX3_dig_45 (lv_at hl 5 rfl) ?_
            refine lv_iconst (v := 1) hx hb dX3_dig_47 (by decide) ?_
            refine lv_iadd hx hb dX3_dig_48 ?_
            refine r_topv (v := nI (i + 1)) (nI_1 i) ?_
            refine lv_istore (lv' := [(6, .int (nI (i + 1))), (0, .ref y0), (1, .int (nI kn)), (2, .int w), (3, .int best), (4, .int least), (5, .int (nI i))]) hx hb dX3_dig_49 hl (by decide) rfl (fun ls hl => ?_)
            exact loop2 (nC (ka 1000) + 1) (i + 1) best least kb (by omega) (by omega) (by omega) (by rw [dgS_low _ (by omega)]; exact hq2) hT hbf hbu _ _ _ (lv_sub hl [1, 2, 3, 4, 5, 6, 0] rfl) hM
      refine lv_aload_n hx hb dX3_dig_22 rfl (lv_at hl 0 rfl) ?_
      refine k_v (r_V (As := []) (rest := []) B hM hL.1 rfl rfl (ok_thinks hL) cal_X3_thinks q1665 rfl hl.1 (Nat.le_of_ble_eq_true rfl) dX3_dig_23 ⟨Nat.le_of_ble_eq_true rfl, Nat.le_of_ble_eq_true rfl⟩ ⟨Nat.le_of_ble_eq_true rfl, Nat.le_of_ble_eq_true rfl⟩) hM (fun ka_9 H locs p_10 hM => ?_)
      obtain ⟨ht1, hq⟩ := p_10
      have hT9 : ka_9 1000 = ka 1000 := (hq 1000 (by decide))
      have hbf9 : ∀ i, i < 107 → ka_9 1005 i = ka 1000 i := fun i hi => by rw [ht1]; exact if_pos hi
      have hB_9 : But [1000, 1004, 1005, 1023, 1024] ka ka_9 := But.trans But.refl (But.mono hq (by decide))
      refine lv_iconst (v := (-1)) hx hb dX3_dig_26 (by decide) ?_
      refine lv_istore_n (lv' := [(3, .int (-1)), (0, .ref y0), (1, .int (nI kn)), (2, .int w)]) hx hb dX3_dig_27 rfl hl (by decide) rfl (fun ls hl => ?_)
      refine lv_iconst (v := 0) hx hb dX3_dig_28 (by decide) ?_
      refine lv_istore (lv' := [(4, .int 0), (3, .int (-1)), (0, .ref y0), (1, .int (nI kn)), (2, .int w)]) hx hb dX3_dig_29 hl (by decide) rfl (fun ls hl => ?_)
      refine lv_iconst (v := 0) hx hb dX3_dig_31 (by decide) ?_
      refine lv_istore (lv' := [(5, .int 0), (4, .int 0), (3, .int (-1)), (0, .ref y0), (1, .int (nI kn)), (2, .int w)]) hx hb dX3_dig_32 hl (by decide) rfl (fun ls hl => ?_)
      exact loop1 (nC (ka 1000) + 1) 0 (-1) 0 ka_9 (by omega) (Nat.zero_le _) rfl hT9 hbf9 hB_9 _ _ _ (lv_sub hl [3, 4, 5, 2, 1, 0] rfl) hM
    · refine lv_if_ne (tgt := 22) hx hb dX3_dig_16 (by decide) (fun cZ => absurd (by decide) cZ) (fun c16 => ?_)
      refine lv_ldc hx hb B.2.2.2.1 (B.ts _ q1496) dX3_dig_19 ?_
      refine r_iret B hr hM dX3_dig_21 ?_
      constructor
      · simp only [A_dig, sg0, sg1, sg7, sg25, sg26, sg27, sg28, sg29, sg30, sg31, sg33, sg99] <;> grind
      · exact Rel.refl
  · refine lv_if_eq (tgt := 19) hx hb dX3_dig_7 (by decide) (fun c7 => ?_) (fun cZ => absurd (by decide) cZ)
    refine lv_ldc hx hb B.2.2.2.1 (B.ts _ q1496) dX3_dig_19 ?_
    refine r_iret B hr hM dX3_dig_21 ?_
    constructor
    · simp only [A_dig, sg0, sg1, sg7, sg25, sg26, sg27, sg28, sg29, sg30, sg31, sg33, sg99] <;> grind
    · exact Rel.refl
end
