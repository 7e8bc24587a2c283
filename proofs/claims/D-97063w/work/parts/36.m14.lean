/-! the model: the tape, sheets -/
set_option maxRecDepth 100000
section
variable {l : Launch} {G : GG} {th : Th} {rh : Rh} {ph : Ph} {ka : Ka} {y0 : Nat} {ay : Nat → Nat}
/-- a stretch of a row, one place more -/
theorem seg_step {kb kc : Ka} {p o i : Nat} {f g : Nat → Int32} (e : kc = up2 kb p (o + i) (f i)) (h : ∀ j, kb p j = if o ≤ j ∧ j < o + i then f (j - o) else g j) : ∀ j, kc p j = if o ≤ j ∧ j < o + (i + 1) then f (j - o) else g j := by
  intro j
  rw [e]
  by_cases q : j = o + i
  · subst q
    rw [up2_s, if_pos (by omega), Nat.add_sub_cancel_left]
  · rw [up2_i _ _ _ _ q, h j]
    by_cases z : o ≤ j ∧ j < o + i
    · rw [if_pos z, if_pos (by omega)]
    · rw [if_neg z, if_neg (by omega)]
theorem But.eq1 {p : Nat} {ka kb : Ka} {r : Row} (h : But [p] ka kb) (e : ∀ j, kb p j = r j) : kb = up1 ka p r := by
  funext j
  by_cases q : j = p
  · subst q; rw [up1_s]; exact funext e
  · rw [up1_a _ _ q]; exact h j (fun z => q (List.mem_singleton.mp z))
theorem sh_k {k : Nat} (h : k < 12) : (24 : Int32) - 8 * (nI k - nI k / 4 * 4) = nI (24 - 8 * (k % 4)) := by
  have : ∀ k : Fin 12, (24 : Int32) - 8 * (nI k.val - nI k.val / 4 * 4) = nI (24 - 8 * (k.val % 4)) := by decide
  exact this ⟨k, h⟩
theorem in0_3 {w : Int32} (h : 0 ≤ w ∧ w ≤ 3) : w = 0 ∨ w = 1 ∨ w = 2 ∨ w = 3 := by
  obtain ⟨k, h1, h2, rfl⟩ := (btw_iff (a := 0) (b := 3) (by decide) (by decide)).mp h
  rcases (show k = 0 ∨ k = 1 ∨ k = 2 ∨ k = 3 by omega) with rfl | rfl | rfl | rfl
  · exact Or.inl rfl
  · exact Or.inr (Or.inl rfl)
  · exact Or.inr (Or.inr (Or.inl rfl))
  · exact Or.inr (Or.inr (Or.inr rfl))
set_option maxHeartbeats 4000000 in
theorem ok_feed (hL : LayM th rh y0 ay) (hS : Sok (sg ka)) (a b c : Int32) : Met l yX3_feed (ws_ yX3_feed cX3_feed 6 (some .int)) (RM 1 0 0) (Pc_ G [.ref y0, .int a, .int b, .int c] th rh ph ka) (Qi G th rh ph (fun r ka' => r = A_feed (sg ka) a b c ∧ Rel (S_feed (sg ka) a b c) (sg ka'))) 0 0 (frG G) := by
  refine m_of (by decide) (Nat.le_of_ble_eq_true rfl) ?_
  intro p_ e_ s_ m_ below_ meth_ c_ B hr hnm ls hl hM
  have hx := B.1
  have hb := B.2.1
  have hM := hM
  obtain ⟨tp, htp96, htp⟩ := hS.2.2.2.1
  have htp : ka 1099 8 = nI tp := htp
  have hcltp : cl (ka 1099 8) = tp := by rw [htp]; exact cl_nI (by omega)
  refine lv_aload_n hx hb dX3_feed_0 rfl (lv_at hl 0 rfl) ?_
  refine r_geti B hM 8 hL.1 rfl (by decide) rfl rfl q1390 dX3_feed_1 ?_
  refine lv_bipush (v := 12) hx hb dX3_feed_4 (by decide) ?_
  refine lv_iadd hx hb dX3_feed_6 ?_
  refine lv_bipush (v := 96) hx hb dX3_feed_7 (by decide) ?_
  refine lv_icmp_le (tgt := 15) hx hb dX3_feed_9 (by decide) (fun c9 => ?_) (fun c9 => ?_)
  · have n9 : tp + 12 ≤ 96 := ntLe (by rw [htp]; simp only [nA, nMu, nL]) rfl (by omega) (by omega) c9
    have loop : ∀ (fu_loop : Nat) (i : Nat) (kb : Ka), 12 - i < fu_loop → (i ≤ 12) → (∀ j, kb 1007 j = if tp ≤ j ∧ j < tp + i then byT a b c (j - tp) else ka 1007 j) → (But [1007] ka kb) → ∀ (ls : Array Slot) (H : Heap) (locs : List Loc), lv_has ls 6 [(0, .ref y0), (1, .int a), (2, .int b), (3, .int c), (4, .int (nI i))] → Md G th rh ph kb H locs → W p_ l e_ (RM 1 0 0) s_ m_ ([.ref y0, .int a, .int b, .int c].toArray) below_ meth_ c_ H locs 0 0 (MQ below_ (Qi G th rh ph (fun r ka' => r = A_feed (sg ka) a b c ∧ Rel (S_feed (sg ka) a b c) (sg ka'))) ([.ref y0, .int a, .int b, .int c].toArray) s_ 0 0 (frG G)) (F0 m_ 18 ls []) := by
      intro fu_loop
      induction fu_loop with
      | zero => intro i kb hfu; exact absurd hfu (Nat.not_lt_zero _)
      | succ fu_loop ih_loop =>
        intro i kb hfu_loop hi hrow hbu ls H locs hl hM
        refine lv_iload hx hb dX3_feed_18 (lv_at hl 4 rfl) ?_
        refine lv_bipush (v := 12) hx hb dX3_feed_20 (by decide) ?_
        refine lv_icmp_ge (tgt := 84) hx hb dX3_feed_22 (by decide) (fun c22 => ?_) (fun c22 => ?_)
        · have n22 : 12 ≤ i := ntLe rfl rfl (by omega) (by omega) c22
          refine lv_aload_n hx hb dX3_feed_84 rfl (lv_at hl 0 rfl) ?_
          refine lv_dup hx hb dX3_feed_85 rfl ?_
          refine r_geti B hM 8 hL.1 rfl (by decide) rfl rfl q1390 dX3_feed_86 ?_
          refine r_topv (v := ka 1099 8) (congrFun (hbu 1099 (by decide)) _) ?_
          refine lv_bipush (v := 12) hx hb dX3_feed_89 (by decide) ?_
          refine lv_iadd hx hb dX3_feed_91 ?_
          refine r_puti B hM 8 hL.1 rfl (by decide) rfl rfl q1390 dX3_feed_92 (fun ka_1 H locs eka_1 hM => ?_)
          refine lv_aload_n hx hb dX3_feed_95 rfl (lv_at hl 0 rfl) ?_
          refine r_geti B hM 8 hL.1 rfl (by decide) rfl rfl q1390 dX3_feed_96 ?_
          refine r_topv (v := ka 1099 8 + 12) (by rw [eka_1, up2_s]) ?_
          refine r_iret B hr hM dX3_feed_99 ?_
          have hw : ¬ (96 : Int32) < sg ka 99 8 + 12 := i_nlt.mpr c9
          constructor
          · show _ = A_feed (sg ka) a b c; unfold A_feed; rw [if_neg hw]; rfl
          · have hi12 : i = 12 := by omega
            subst hi12
            refine Rel.of ?_; rw [S_feed, if_neg hw, show cl (sg ka 99 8) = tp from hcltp]
            rw [eka_1, sg_up2 _ 99, But.eq1 hbu hrow, sg_up1 _ 7]; rfl
        · have n22 : i < 12 := ntNle rfl rfl (by omega) (by omega) c22
          refine lv_iload hx hb dX3_feed_25 (lv_at hl 4 rfl) ?_
          refine lv_iconst (v := 4) hx hb dX3_feed_27 (by decide) ?_
          refine lv_icmp_ge (tgt := 35) hx hb dX3_feed_28 (by decide) (fun c28 => ?_) (fun c28 => ?_)
          · have n28 : 4 ≤ i := ntLe rfl rfl (by omega) (by omega) c28
            refine lv_iload hx hb dX3_feed_35 (lv_at hl 4 rfl) ?_
            refine lv_bipush (v := 8) hx hb dX3_feed_37 (by decide) ?_
            refine lv_icmp_ge (tgt := 46) hx hb dX3_feed_39 (by decide) (fun c39 => ?_) (fun c39 => ?_)
            · have n39 : 8 ≤ i := ntLe rfl rfl (by omega) (by omega) c39
              refine lv_iload_n hx hb dX3_feed_46 rfl (lv_at hl 3 rfl) ?_
              refine lv_istore (lv' := [(5, .int c), (0, .ref y0), (1, .int a), (2, .int b), (3, .int c), (4, .int (nI i))]) hx hb dX3_feed_47 hl (by decide) rfl (fun ls hl => ?_)
              refine lv_aload_n hx hb dX3_feed_49 rfl (lv_at hl 1 rfl) ?_
              refine r_getq B hM 7 hL.1 rfl (by decide) rfl rfl (hL.2 7 _ _ rfl).1 q1389 dX3_feed_50 ?_
              refine lv_aload_n hx hb dX3_feed_53 rfl (lv_at hl 1 rfl) ?_
              refine r_geti B hM 8 hL.1 rfl (by decide) rfl rfl q1390 dX3_feed_54 ?_
              refine r_topv (v := ka 1099 8) (congrFun (hbu 1099 (by decide)) _) ?_
              refine lv_iload hx hb dX3_feed_57 (lv_at hl 5 rfl) ?_
              refine lv_iadd hx hb dX3_feed_59 ?_
              refine lv_iload hx hb dX3_feed_60 (lv_at hl 0 rfl) ?_
              refine lv_bipush (v := 24) hx hb dX3_feed_62 (by decide) ?_
              refine lv_bipush (v := 8) hx hb dX3_feed_64 (by decide) ?_
              refine lv_iload hx hb dX3_feed_66 (lv_at hl 5 rfl) ?_
              refine lv_iconst (v := 4) hx hb dX3_feed_68 (by decide) ?_
              refine lv_irem hx hb dX3_feed_69 (by decide) ?_
              refine lv_imul hx hb dX3_feed_70 ?_
              refine lv_isub hx hb dX3_feed_71 ?_
              refine lv_ishr hx hb dX3_feed_72 ?_
              refine lv_sipush (v := 255) hx hb dX3_feed_73 (by decide) ?_
              refine lv_iand hx hb dX3_feed_76 ?_
              refine r_topv (v := byT a b c i) (by unfold byT; rw [sh_k (by omega), if_neg (by omega), if_neg (by omega)]) ?_
              refine r_ist B hM (tp + i) (hL.2 7 _ _ rfl).2 (by rw [htp]; simp only [nA, nMu, nL]) (by omega) (by decide) dX3_feed_77 (fun ka_2 H locs eka_2 hM => ?_)
              have hB_2 : But [1007] ka ka_2 := But.trans hbu (by rw [eka_2]; exact But.up (by decide))
              refine lv_iinc (v := nI (i + 1)) (lv' := [(4, .int (nI (i + 1))), (5, .int c), (0, .ref y0), (1, .int a), (2, .int b), (3, .int c)]) hx hb dX3_feed_78 hl (k := 5) rfl (nI_1 _) (by decide) rfl (fun ls hl => ?_)
              refine lv_goto (tgt := 18) hx hb dX3_feed_81 (by decide) ?_
              exact ih_loop (i + 1) ka_2 (by omega) (by omega) (seg_step eka_2 hrow) hB_2 _ _ _ (lv_sub hl [2, 3, 4, 5, 0] rfl) hM
            · have n39 : i < 8 := ntNle rfl rfl (by omega) (by omega) c39
              refine lv_iload_n hx hb dX3_feed_42 rfl (lv_at hl 2 rfl) ?_
              refine lv_goto (tgt := 47) hx hb dX3_feed_43 (by decide) ?_
              refine lv_istore (lv' := [(5, .int b), (0, .ref y0), (1, .int a), (2, .int b), (3, .int c), (4, .int (nI i))]) hx hb dX3_feed_47 hl (by decide) rfl (fun ls hl => ?_)
              refine lv_aload_n hx hb dX3_feed_49 rfl (lv_at hl 1 rfl) ?_
              refine r_getq B hM 7 hL.1 rfl (by decide) rfl rfl (hL.2 7 _ _ rfl).1 q1389 dX3_feed_50 ?_
              refine lv_aload_n hx hb dX3_feed_53 rfl (lv_at hl 1 rfl) ?_
              refine r_geti B hM 8 hL.1 rfl (by decide) rfl rfl q1390 dX3_feed_54 ?_
              refine r_topv (v := ka 1099 8) (congrFun (hbu 1099 (by decide)) _) ?_
              refine lv_iload hx hb dX3_feed_57 (lv_at hl 5 rfl) ?_
              refine lv_iadd hx hb dX3_feed_59 ?_
              refine lv_iload hx hb dX3_feed_60 (lv_at hl 0 rfl) ?_
              refine lv_bipush (v := 24) hx hb dX3_feed_62 (by decide) ?_
              refine lv_bipush (v := 8) hx hb dX3_feed_64 (by decide) ?_
              refine lv_iload hx hb dX3_feed_66 (lv_at hl 5 rfl) ?_
              refine lv_iconst (v := 4) hx hb dX3_feed_68 (by decide) ?_
              refine lv_irem hx hb dX3_feed_69 (by decide) ?_
              refine lv_imul hx hb dX3_feed_70 ?_
              refine lv_isub hx hb dX3_feed_71 ?_
              refine lv_ishr hx hb dX3_feed_72 ?_
              refine lv_sipush (v := 255) hx hb dX3_feed_73 (by decide) ?_
              refine lv_iand hx hb dX3_feed_76 ?_
              refine r_topv (v := byT a b c i) (by unfold byT; rw [sh_k (by omega), if_neg (by omega), if_pos (by omega)]) ?_
              refine r_ist B hM (tp + i) (hL.2 7 _ _ rfl).2 (by rw [htp]; simp only [nA, nMu, nL]) (by omega) (by decide) dX3_feed_77 (fun ka_3 H locs eka_3 hM => ?_)
              have hB_3 : But [1007] ka ka_3 := But.trans hbu (by rw [eka_3]; exact But.up (by decide))
              refine lv_iinc (v := nI (i + 1)) (lv' := [(4, .int (nI (i + 1))), (5, .int b), (0, .ref y0), (1, .int a), (2, .int b), (3, .int c)]) hx hb dX3_feed_78 hl (k := 5) rfl (nI_1 _) (by decide) rfl (fun ls hl => ?_)
              refine lv_goto (tgt := 18) hx hb dX3_feed_81 (by decide) ?_
              exact ih_loop (i + 1) ka_3 (by omega) (by omega) (seg_step eka_3 hrow) hB_3 _ _ _ (lv_sub hl [2, 3, 4, 5, 0] rfl) hM
          · have n28 : i < 4 := ntNle rfl rfl (by omega) (by omega) c28
            refine lv_iload_n hx hb dX3_feed_31 rfl (lv_at hl 1 rfl) ?_
            refine lv_goto (tgt := 47) hx hb dX3_feed_32 (by decide) ?_
            refine lv_istore (lv' := [(5, .int a), (0, .ref y0), (1, .int a), (2, .int b), (3, .int c), (4, .int (nI i))]) hx hb dX3_feed_47 hl (by decide) rfl (fun ls hl => ?_)
            refine lv_aload_n hx hb dX3_feed_49 rfl (lv_at hl 1 rfl) ?_
            refine r_getq B hM 7 hL.1 rfl (by decide) rfl rfl (hL.2 7 _ _ rfl).1 q1389 dX3_feed_50 ?_
            refine lv_aload_n hx hb dX3_feed_53 rfl (lv_at hl 1 rfl) ?_
            refine r_geti B hM 8 hL.1 rfl (by decide) rfl rfl q1390 dX3_feed_54 ?_
            refine r_topv (v := ka 1099 8) (congrFun (hbu 1099 (by decide)) _) ?_
            refine lv_iload hx hb dX3_feed_57 (lv_at hl 5 rfl) ?_
            refine lv_iadd hx hb dX3_feed_59 ?_
            refine lv_iload hx hb dX3_feed_60 (lv_at hl 0 rfl) ?_
            refine lv_bipush (v := 24) hx hb dX3_feed_62 (by decide) ?_
            refine lv_bipush (v := 8) hx hb dX3_feed_64 (by decide) ?_
            refine lv_iload hx hb dX3_feed_66 (lv_at hl 5 rfl) ?_
            refine lv_iconst (v := 4) hx hb dX3_feed_68 (by decide) ?_
            refine lv_irem hx hb dX3_feed_69 (by decide) ?_
            refine lv_imul hx hb dX3_feed_70 ?_
            refine lv_isub hx hb dX3_feed_71 ?_
            refine lv_ishr hx hb dX3_feed_72 ?_
            refine lv_sipush (v := 255) hx hb dX3_feed_73 (by decide) ?_
            refine lv_iand hx hb dX3_feed_76 ?_
            refine r_topv (v := byT a b c i) (by unfold byT; rw [sh_k (by omega), if_pos (by omega)]) ?_
            refine r_ist B hM (tp + i) (hL.2 7 _ _ rfl).2 (by rw [htp]; simp only [nA, nMu, nL]) (by omega) (by decide) dX3_feed_77 (fun ka_4 H locs eka_4 hM => ?_)
            have hB_4 : But [1007] ka ka_4 := But.trans hbu (by rw [eka_4]; exact But.up (by decide))
            refine lv_iinc (v := nI (i + 1)) (lv' := [(4, .int (nI (i + 1))), (5, .int a), (0, .ref y0), (1, .int a), (2, .int b), (3, .int c)]) hx hb dX3_feed_78 hl (k := 5) rfl (nI_1 _) (by decide) rfl (fun ls hl => ?_)
            refine lv_goto (tgt := 18) hx hb dX3_feed_81 (by decide) ?_
            exact ih_loop (i + 1) ka_4 (by omega) (by omega) (seg_step eka_4 hrow) hB_4 _ _ _ (lv_sub hl [2, 3, 4, 5, 0] rfl) hM
    refine lv_iconst (v := 0) hx hb dX3_feed_15 (by decide) ?_
    refine lv_istore (lv' := [(4, .int 0), (0, .ref y0), (1, .int a), (2, .int b), (3, .int c)]) hx hb dX3_feed_16 hl (by decide) rfl (fun ls hl => ?_)
    exact loop 13 0 ka (by omega) (Nat.zero_le _) (fun j => (if_neg (by omega)).symm) But.refl _ _ _ (lv_sub hl [1, 2, 3, 4, 0] rfl) hM
  · have n9 : 96 < tp + 12 := ntNle (by rw [htp]; simp only [nA, nMu, nL]) rfl (by omega) (by omega) c9
    refine lv_ldc hx hb B.2.2.2.1 (B.ts _ q1497) dX3_feed_12 ?_
    refine r_iret B hr hM dX3_feed_14 ?_
    constructor
    · simp only [A_feed, sg0, sg1, sg7, sg25, sg26, sg27, sg28, sg29, sg30, sg31, sg33, sg99] <;> grind
    · refine Rel.of ?_; simp only [S_feed, sg0, sg1, sg7, sg25, sg26, sg27, sg28, sg29, sg30, sg31, sg33, sg99] <;> grind
set_option maxHeartbeats 4000000 in
theorem ok_sheet (hL : LayM th rh y0 ay) (sh so n : Int32) : Met l yX3_sheet (ws_ yX3_sheet cX3_sheet 5 (some .int)) (RM 3 0 0) (Pc_ G [.ref y0, .int sh, .int so, .int n] th rh ph ka) (Qi G th rh ph (fun r ka' => r = A_sheet (sg ka) sh so n ∧ Rel (S_sheet (sg ka) sh so n) (sg ka'))) 0 0 (frG G) := by
  refine m_of (by decide) (Nat.le_of_ble_eq_true rfl) ?_
  intro p_ e_ s_ m_ below_ meth_ c_ B hr hnm ls hl hM
  have hx := B.1
  have hb := B.2.1
  have hM := hM
  refine lv_iload_n hx hb dX3_sheet_0 rfl (lv_at hl 1 rfl) ?_
  refine k_pb (r_S (As := [.int sh]) (rest := []) B hM (ok_isSheet sh) cal_X3_isSheet q1710 rfl hl.1 (Nat.le_of_ble_eq_true rfl) dX3_sheet_1 ⟨Nat.le_of_ble_eq_true rfl, Nat.le_of_ble_eq_true rfl⟩ ⟨Nat.le_of_ble_eq_true rfl, Nat.le_of_ble_eq_true rfl⟩) hM (fun H locs b1 hM => ?_) (fun H locs b1 hM => ?_)
  · obtain ⟨ksh, hksh, rfl⟩ := b1
    have hinksh : inC (nI ksh) (4) := (inC_iff (by omega)).mpr ⟨ksh, hksh, rfl⟩
    have hclksh : cl (nI ksh) = ksh := cl_nI (by omega)
    refine lv_if_eq (tgt := 26) hx hb dX3_sheet_4 (by decide) (fun cZ => absurd cZ (by decide)) (fun c4 => ?_)
    refine lv_iload_n hx hb dX3_sheet_7 rfl (lv_at hl 2 rfl) ?_
    refine lv_iconst (v := (-1)) hx hb dX3_sheet_8 (by decide) ?_
    refine lv_iconst (v := 1) hx hb dX3_sheet_9 (by decide) ?_
    refine k_pb (r_S (As := [.int so, .int (-1), .int 1]) (rest := []) B hM (ok_in so (-1) 1) cal_X3_in q1493 rfl hl.1 (Nat.le_of_ble_eq_true rfl) dX3_sheet_10 ⟨Nat.le_of_ble_eq_true rfl, Nat.le_of_ble_eq_true rfl⟩ ⟨Nat.le_of_ble_eq_true rfl, Nat.le_of_ble_eq_true rfl⟩) hM (fun H locs b10 hM => ?_) (fun H locs b10 hM => ?_)
    · refine lv_if_eq (tgt := 26) hx hb dX3_sheet_13 (by decide) (fun cZ => absurd cZ (by decide)) (fun c13 => ?_)
      refine lv_iload_n hx hb dX3_sheet_16 rfl (lv_at hl 2 rfl) ?_
      refine lv_if_lt (tgt := 29) hx hb dX3_sheet_17 (by decide) (fun c17 => ?_) (fun c17 => ?_)
      · refine lv_iload_n hx hb dX3_sheet_29 rfl (lv_at hl 2 rfl) ?_
        refine lv_if_lt (tgt := 41) hx hb dX3_sheet_30 (by decide) (fun c30 => ?_) (fun cZ => absurd c17 cZ)
        have loop : ∀ (fu_loop : Nat) (i : Nat) (kb : Ka), 24 - i < fu_loop → (i ≤ 24) → (∀ j, kb 1027 j = if 24 * ksh ≤ j ∧ j < 24 * ksh + i then 0 else ka 1027 j) → (But [1027] (up2 (up2 ka 1025 ksh so) 1026 ksh (if so < 0 then 0 else n)) kb) → ∀ (ls : Array Slot) (H : Heap) (locs : List Loc), lv_has ls 5 [(0, .ref y0), (1, .int (nI ksh)), (2, .int so), (3, .int n), (4, .int (nI i))] → Md G th rh ph kb H locs → W p_ l e_ (RM 3 0 0) s_ m_ ([.ref y0, .int (nI ksh), .int so, .int n].toArray) below_ meth_ c_ H locs 0 0 (MQ below_ (Qi G th rh ph (fun r ka' => r = A_sheet (sg ka) (nI ksh) so n ∧ Rel (S_sheet (sg ka) (nI ksh) so n) (sg ka'))) ([.ref y0, .int (nI ksh), .int so, .int n].toArray) s_ 0 0 (frG G)) (F0 m_ 66 ls []) := by
          intro fu_loop
          induction fu_loop with
          | zero => intro i kb hfu; exact absurd hfu (Nat.not_lt_zero _)
          | succ fu_loop ih_loop =>
            intro i kb hfu_loop hi hrow hbu ls H locs hl hM
            refine lv_iload hx hb dX3_sheet_66 (lv_at hl 4 rfl) ?_
            refine lv_bipush (v := 24) hx hb dX3_sheet_68 (by decide) ?_
            refine lv_icmp_ge (tgt := 92) hx hb dX3_sheet_70 (by decide) (fun c70 => ?_) (fun c70 => ?_)
            · have n70 : 24 ≤ i := ntLe rfl rfl (by omega) (by omega) c70
              refine lv_aload_n hx hb dX3_sheet_92 rfl (lv_at hl 0 rfl) ?_
              refine r_getq B hM 26 hL.1 rfl (by decide) rfl rfl (hL.2 26 _ _ rfl).1 q1408 dX3_sheet_93 ?_
              refine lv_iload_n hx hb dX3_sheet_96 rfl (lv_at hl 1 rfl) ?_
              refine r_ild B hM ksh (hL.2 26 _ _ rfl).2 rfl (by omega) (by decide) dX3_sheet_97 ?_
              refine r_topv (v := if so < 0 then 0 else n) (by rw [hbu 1026 (by decide), up2_s]) ?_
              refine r_iret B hr hM dX3_sheet_98 ?_
              have hi24 : i = 24 := by omega
              subst hi24
              have hg : ¬ badS (nI ksh) so n := by simp only [badS]; grind
              have hg2 : ¬ (0 ≤ so ∧ n < 0) := by grind
              constructor
              · show _ = A_sheet (sg ka) (nI ksh) so n; unfold A_sheet; rw [if_neg hg, if_neg hg2]
              · refine Rel.of ?_; rw [S_sheet, if_neg hg, if_neg hg2, But.eq1 hbu hrow, sg_up1 _ 27, sg_up2 _ 26, sg_up2 _ 25]; simp only [sg0, sg1, sg7, sg25, sg26, sg27, sg28, sg29, sg30, sg31, sg33, sg99, hclksh]
            · have n70 : i < 24 := ntNle rfl rfl (by omega) (by omega) c70
              refine lv_aload_n hx hb dX3_sheet_73 rfl (lv_at hl 0 rfl) ?_
              refine r_getq B hM 27 hL.1 rfl (by decide) rfl rfl (hL.2 27 _ _ rfl).1 q1409 dX3_sheet_74 ?_
              refine lv_bipush (v := 24) hx hb dX3_sheet_77 (by decide) ?_
              refine lv_iload_n hx hb dX3_sheet_79 rfl (lv_at hl 1 rfl) ?_
              refine lv_imul hx hb dX3_sheet_80 ?_
              refine lv_iload hx hb dX3_sheet_81 (lv_at hl 4 rfl) ?_
              refine lv_iadd hx hb dX3_sheet_83 ?_
              refine lv_iconst (v := 0) hx hb dX3_sheet_84 (by decide) ?_
              refine r_ist B hM (24 * ksh + i) (hL.2 27 _ _ rfl).2 (by simp only [nA, nMu, nL]) (by omega) (by decide) dX3_sheet_85 (fun ka_1 H locs eka_1 hM => ?_)
              refine lv_iinc (v := nI (i + 1)) (lv' := [(4, .int (nI (i + 1))), (0, .ref y0), (1, .int (nI ksh)), (2, .int so), (3, .int n)]) hx hb dX3_sheet_86 hl (k := 4) rfl (nI_1 _) (by decide) rfl (fun ls hl => ?_)
              refine lv_goto (tgt := 66) hx hb dX3_sheet_89 (by decide) ?_
              exact ih_loop (i + 1) ka_1 (by omega) (by omega) (seg_step (f := fun _ => 0) eka_1 hrow) (But.trans hbu (by rw [eka_1]; exact But.up (by decide))) _ _ _ (lv_sub hl [1, 2, 3, 4, 0] rfl) hM
        refine lv_aload_n hx hb dX3_sheet_41 rfl (lv_at hl 0 rfl) ?_
        refine r_getq B hM 25 hL.1 rfl (by decide) rfl rfl (hL.2 25 _ _ rfl).1 q1407 dX3_sheet_42 ?_
        refine lv_iload_n hx hb dX3_sheet_45 rfl (lv_at hl 1 rfl) ?_
        refine lv_iload_n hx hb dX3_sheet_46 rfl (lv_at hl 2 rfl) ?_
        refine r_ist B hM ksh (hL.2 25 _ _ rfl).2 rfl (by omega) (by decide) dX3_sheet_47 (fun ka_2 H locs eka_2 hM => ?_)
        refine lv_aload_n hx hb dX3_sheet_48 rfl (lv_at hl 0 rfl) ?_
        refine r_getq B hM 26 hL.1 rfl (by decide) rfl rfl (hL.2 26 _ _ rfl).1 q1408 dX3_sheet_49 ?_
        refine lv_iload_n hx hb dX3_sheet_52 rfl (lv_at hl 1 rfl) ?_
        refine lv_iload_n hx hb dX3_sheet_53 rfl (lv_at hl 2 rfl) ?_
        refine lv_if_ge (tgt := 61) hx hb dX3_sheet_54 (by decide) (fun cZ => absurd cZ (i_nle.mpr c17)) (fun c54 => ?_)
        refine lv_iconst (v := 0) hx hb dX3_sheet_57 (by decide) ?_
        refine lv_goto (tgt := 62) hx hb dX3_sheet_58 (by decide) ?_
        refine r_ist B hM ksh (hL.2 26 _ _ rfl).2 rfl (by omega) (by decide) dX3_sheet_62 (fun ka_3 H locs eka_3 hM => ?_)
        have hkm : ka_3 = (up2 (up2 ka 1025 ksh so) 1026 ksh (if so < 0 then 0 else n)) := by rw [eka_3, eka_2, if_pos c17]
        refine lv_iconst (v := 0) hx hb dX3_sheet_63 (by decide) ?_
        refine lv_istore (lv' := [(4, .int 0), (0, .ref y0), (1, .int (nI ksh)), (2, .int so), (3, .int n)]) hx hb dX3_sheet_64 hl (by decide) rfl (fun ls hl => ?_)
        exact loop 25 0 ka_3 (by omega) (Nat.zero_le _) (fun j => by rw [if_neg (by omega), hkm, up2_a _ _ _ (by decide), up2_a _ _ _ (by decide)]) (hkm ▸ But.refl) _ _ _ (lv_sub hl [1, 2, 3, 4, 0] rfl) hM
      · refine lv_iload_n hx hb dX3_sheet_20 rfl (lv_at hl 3 rfl) ?_
        refine lv_bipush (v := 24) hx hb dX3_sheet_21 (by decide) ?_
        refine lv_icmp_le (tgt := 29) hx hb dX3_sheet_23 (by decide) (fun c23 => ?_) (fun c23 => ?_)
        · refine lv_iload_n hx hb dX3_sheet_29 rfl (lv_at hl 2 rfl) ?_
          refine lv_if_lt (tgt := 41) hx hb dX3_sheet_30 (by decide) (fun cZ => absurd cZ c17) (fun c30 => ?_)
          refine lv_iload_n hx hb dX3_sheet_33 rfl (lv_at hl 3 rfl) ?_
          refine lv_if_ge (tgt := 41) hx hb dX3_sheet_34 (by decide) (fun c34 => ?_) (fun c34 => ?_)
          · have loop : ∀ (fu_loop : Nat) (i : Nat) (kb : Ka), 24 - i < fu_loop → (i ≤ 24) → (∀ j, kb 1027 j = if 24 * ksh ≤ j ∧ j < 24 * ksh + i then 0 else ka 1027 j) → (But [1027] (up2 (up2 ka 1025 ksh so) 1026 ksh (if so < 0 then 0 else n)) kb) → ∀ (ls : Array Slot) (H : Heap) (locs : List Loc), lv_has ls 5 [(0, .ref y0), (1, .int (nI ksh)), (2, .int so), (3, .int n), (4, .int (nI i))] → Md G th rh ph kb H locs → W p_ l e_ (RM 3 0 0) s_ m_ ([.ref y0, .int (nI ksh), .int so, .int n].toArray) below_ meth_ c_ H locs 0 0 (MQ below_ (Qi G th rh ph (fun r ka' => r = A_sheet (sg ka) (nI ksh) so n ∧ Rel (S_sheet (sg ka) (nI ksh) so n) (sg ka'))) ([.ref y0, .int (nI ksh), .int so, .int n].toArray) s_ 0 0 (frG G)) (F0 m_ 66 ls []) := by
              intro fu_loop
              induction fu_loop with
              | zero => intro i kb hfu; exact absurd hfu (Nat.not_lt_zero _)
              | succ fu_loop ih_loop =>
                intro i kb hfu_loop hi hrow hbu ls H locs hl hM
                refine lv_iload hx hb dX3_sheet_66 (lv_at hl 4 rfl) ?_
                refine lv_bipush (v := 24) hx hb dX3_sheet_68 (by decide) ?_
                refine lv_icmp_ge (tgt := 92) hx hb dX3_sheet_70 (by decide) (fun c70 => ?_) (fun c70 => ?_)
                · have n70 : 24 ≤ i := ntLe rfl rfl (by omega) (by omega) c70
                  refine lv_aload_n hx hb dX3_sheet_92 rfl (lv_at hl 0 rfl) ?_
                  refine r_getq B hM 26 hL.1 rfl (by decide) rfl rfl (hL.2 26 _ _ rfl).1 q1408 dX3_sheet_93 ?_
                  refine lv_iload_n hx hb dX3_sheet_96 rfl (lv_at hl 1 rfl) ?_
                  refine r_ild B hM ksh (hL.2 26 _ _ rfl).2 rfl (by omega) (by decide) dX3_sheet_97 ?_
                  refine r_topv (v := if so < 0 then 0 else n) (by rw [hbu 1026 (by decide), up2_s]) ?_
                  refine r_iret B hr hM dX3_sheet_98 ?_
                  have hi24 : i = 24 := by omega
                  subst hi24
                  have hg : ¬ badS (nI ksh) so n := by simp only [badS]; grind
                  have hg2 : ¬ (0 ≤ so ∧ n < 0) := by grind
                  constructor
                  · show _ = A_sheet (sg ka) (nI ksh) so n; unfold A_sheet; rw [if_neg hg, if_neg hg2]
                  · refine Rel.of ?_; rw [S_sheet, if_neg hg, if_neg hg2, But.eq1 hbu hrow, sg_up1 _ 27, sg_up2 _ 26, sg_up2 _ 25]; simp only [sg0, sg1, sg7, sg25, sg26, sg27, sg28, sg29, sg30, sg31, sg33, sg99, hclksh]
                · have n70 : i < 24 := ntNle rfl rfl (by omega) (by omega) c70
                  refine lv_aload_n hx hb dX3_sheet_73 rfl (lv_at hl 0 rfl) ?_
                  refine r_getq B hM 27 hL.1 rfl (by decide) rfl rfl (hL.2 27 _ _ rfl).1 q1409 dX3_sheet_74 ?_
                  refine lv_bipush (v := 24) hx hb dX3_sheet_77 (by decide) ?_
                  refine lv_iload_n hx hb dX3_sheet_79 rfl (lv_at hl 1 rfl) ?_
                  refine lv_imul hx hb dX3_sheet_80 ?_
                  refine lv_iload hx hb dX3_sheet_81 (lv_at hl 4 rfl) ?_
                  refine lv_iadd hx hb dX3_sheet_83 ?_
                  refine lv_iconst (v := 0) hx hb dX3_sheet_84 (by decide) ?_
                  refine r_ist B hM (24 * ksh + i) (hL.2 27 _ _ rfl).2 (by simp only [nA, nMu, nL]) (by omega) (by decide) dX3_sheet_85 (fun ka_4 H locs eka_4 hM => ?_)
                  refine lv_iinc (v := nI (i + 1)) (lv' := [(4, .int (nI (i + 1))), (0, .ref y0), (1, .int (nI ksh)), (2, .int so), (3, .int n)]) hx hb dX3_sheet_86 hl (k := 4) rfl (nI_1 _) (by decide) rfl (fun ls hl => ?_)
                  refine lv_goto (tgt := 66) hx hb dX3_sheet_89 (by decide) ?_
                  exact ih_loop (i + 1) ka_4 (by omega) (by omega) (seg_step (f := fun _ => 0) eka_4 hrow) (But.trans hbu (by rw [eka_4]; exact But.up (by decide))) _ _ _ (lv_sub hl [1, 2, 3, 4, 0] rfl) hM
            refine lv_aload_n hx hb dX3_sheet_41 rfl (lv_at hl 0 rfl) ?_
            refine r_getq B hM 25 hL.1 rfl (by decide) rfl rfl (hL.2 25 _ _ rfl).1 q1407 dX3_sheet_42 ?_
            refine lv_iload_n hx hb dX3_sheet_45 rfl (lv_at hl 1 rfl) ?_
            refine lv_iload_n hx hb dX3_sheet_46 rfl (lv_at hl 2 rfl) ?_
            refine r_ist B hM ksh (hL.2 25 _ _ rfl).2 rfl (by omega) (by decide) dX3_sheet_47 (fun ka_5 H locs eka_5 hM => ?_)
            refine lv_aload_n hx hb dX3_sheet_48 rfl (lv_at hl 0 rfl) ?_
            refine r_getq B hM 26 hL.1 rfl (by decide) rfl rfl (hL.2 26 _ _ rfl).1 q1408 dX3_sheet_49 ?_
            refine lv_iload_n hx hb dX3_sheet_52 rfl (lv_at hl 1 rfl) ?_
            refine lv_iload_n hx hb dX3_sheet_53 rfl (lv_at hl 2 rfl) ?_
            refine lv_if_ge (tgt := 61) hx hb dX3_sheet_54 (by decide) (fun c54 => ?_) (fun cZ => absurd (i_nlt.mp c17) cZ)
            refine lv_iload_n hx hb dX3_sheet_61 rfl (lv_at hl 3 rfl) ?_
            refine r_ist B hM ksh (hL.2 26 _ _ rfl).2 rfl (by omega) (by decide) dX3_sheet_62 (fun ka_6 H locs eka_6 hM => ?_)
            have hkm : ka_6 = (up2 (up2 ka 1025 ksh so) 1026 ksh (if so < 0 then 0 else n)) := by rw [eka_6, eka_5, if_neg c17]
            refine lv_iconst (v := 0) hx hb dX3_sheet_63 (by decide) ?_
            refine lv_istore (lv' := [(4, .int 0), (0, .ref y0), (1, .int (nI ksh)), (2, .int so), (3, .int n)]) hx hb dX3_sheet_64 hl (by decide) rfl (fun ls hl => ?_)
            exact loop 25 0 ka_6 (by omega) (Nat.zero_le _) (fun j => by rw [if_neg (by omega), hkm, up2_a _ _ _ (by decide), up2_a _ _ _ (by decide)]) (hkm ▸ But.refl) _ _ _ (lv_sub hl [1, 2, 3, 4, 0] rfl) hM
          · refine lv_ldcw hx hb B.2.2.2.1 (B.ts _ q1796) dX3_sheet_37 ?_
            refine r_iret B hr hM dX3_sheet_40 ?_
            constructor
            · simp only [A_sheet, badS, sg0, sg1, sg7, sg25, sg26, sg27, sg28, sg29, sg30, sg31, sg33, sg99, hclksh] <;> grind
            · refine Rel.of ?_; simp only [S_sheet, badS, sg0, sg1, sg7, sg25, sg26, sg27, sg28, sg29, sg30, sg31, sg33, sg99, hclksh] <;> grind
        · refine lv_ldc hx hb B.2.2.2.1 (B.ts _ q1496) dX3_sheet_26 ?_
          refine r_iret B hr hM dX3_sheet_28 ?_
          constructor
          · simp only [A_sheet, badS, sg0, sg1, sg7, sg25, sg26, sg27, sg28, sg29, sg30, sg31, sg33, sg99, hclksh] <;> grind
          · refine Rel.of ?_; simp only [S_sheet, badS, sg0, sg1, sg7, sg25, sg26, sg27, sg28, sg29, sg30, sg31, sg33, sg99, hclksh] <;> grind
    · refine lv_if_eq (tgt := 26) hx hb dX3_sheet_13 (by decide) (fun c13 => ?_) (fun cZ => absurd (by decide) cZ)
      refine lv_ldc hx hb B.2.2.2.1 (B.ts _ q1496) dX3_sheet_26 ?_
      refine r_iret B hr hM dX3_sheet_28 ?_
      constructor
      · simp only [A_sheet, badS, sg0, sg1, sg7, sg25, sg26, sg27, sg28, sg29, sg30, sg31, sg33, sg99, hclksh] <;> grind
      · refine Rel.of ?_; simp only [S_sheet, badS, sg0, sg1, sg7, sg25, sg26, sg27, sg28, sg29, sg30, sg31, sg33, sg99, hclksh] <;> grind
  · refine lv_if_eq (tgt := 26) hx hb dX3_sheet_4 (by decide) (fun c4 => ?_) (fun cZ => absurd (by decide) cZ)
    refine lv_ldc hx hb B.2.2.2.1 (B.ts _ q1496) dX3_sheet_26 ?_
    refine r_iret B hr hM dX3_sheet_28 ?_
    have ib1 := mt (inC_iff (n := 4) (by omega)).mp b1
    constructor
    · simp only [A_sheet, badS, sg0, sg1, sg7, sg25, sg26, sg27, sg28, sg29, sg30, sg31, sg33, sg99] <;> grind
    · refine Rel.of ?_; simp only [S_sheet, badS, sg0, sg1, sg7, sg25, sg26, sg27, sg28, sg29, sg30, sg31, sg33, sg99] <;> grind
set_option maxHeartbeats 4000000 in
theorem ok_pour (hL : LayM th rh y0 ay) (hS : Sok (sg ka)) (sh : Int32) : Met l yX3_pour (ws_ yX3_pour cX3_pour 6 (some .int)) (RM 3 0 0) (Pc_ G [.ref y0, .int sh] th rh ph ka) (Qi G th rh ph (fun r ka' => r = A_pour (sg ka) sh ∧ Rel (S_pour (sg ka) sh) (sg ka'))) 0 0 (frG G) := by
  refine m_of (by decide) (Nat.le_of_ble_eq_true rfl) ?_
  intro p_ e_ s_ m_ below_ meth_ c_ B hr hnm ls hl hM
  have hx := B.1
  have hb := B.2.1
  have hM := hM
  have hR := hS.r
  have h8 := hR.1.2
  have h13 := hR.2.1.2
  have h14 := hR.2.2.1.2
  refine lv_iload_n hx hb dX3_pour_0 rfl (lv_at hl 1 rfl) ?_
  refine k_pb (r_S (As := [.int sh]) (rest := []) B hM (ok_isSheet sh) cal_X3_isSheet q1710 rfl hl.1 (Nat.le_of_ble_eq_true rfl) dX3_pour_1 ⟨Nat.le_of_ble_eq_true rfl, Nat.le_of_ble_eq_true rfl⟩ ⟨Nat.le_of_ble_eq_true rfl, Nat.le_of_ble_eq_true rfl⟩) hM (fun H locs b1 hM => ?_) (fun H locs b1 hM => ?_)
  · obtain ⟨ksh, hksh, rfl⟩ := b1
    have hinksh : inC (nI ksh) (4) := (inC_iff (by omega)).mpr ⟨ksh, hksh, rfl⟩
    have hclksh : cl (nI ksh) = ksh := cl_nI (by omega)
    refine lv_if_ne (tgt := 10) hx hb dX3_pour_4 (by decide) (fun c4 => ?_) (fun cZ => absurd cZ (by decide))
    refine lv_aload_n hx hb dX3_pour_10 rfl (lv_at hl 0 rfl) ?_
    refine r_getq B hM 25 hL.1 rfl (by decide) rfl rfl (hL.2 25 _ _ rfl).1 q1407 dX3_pour_11 ?_
    refine lv_iload_n hx hb dX3_pour_14 rfl (lv_at hl 1 rfl) ?_
    refine r_ild B hM ksh (hL.2 25 _ _ rfl).2 rfl (by omega) (by decide) dX3_pour_15 ?_
    refine lv_if_ge (tgt := 22) hx hb dX3_pour_16 (by decide) (fun c16 => ?_) (fun c16 => ?_)
    · obtain ⟨z, hz24, hz⟩ := hS.sz hksh
      have hclz : cl (ka 1026 ksh) = z := by rw [hz]; exact cl_nI (by omega)
      have loop : ∀ (fu_loop : Nat) (i : Nat) (ct : Int32) (kb : Ka), z - i < fu_loop → (i ≤ z) → (i ≤ nC (ka 1000)) → (itn (poS (ka 1027) ksh) i (ka 1000, 0) = (kb 1000, ct)) → (kb 1000 1 = ka 1000 1) → (But [1000] ka kb) → ∀ (ls : Array Slot) (H : Heap) (locs : List Loc), lv_has ls 6 [(0, .ref y0), (1, .int (nI ksh)), (2, .int ct), (3, .int (nI i))] → Md G th rh ph kb H locs → W p_ l e_ (RM 3 0 0) s_ m_ ([.ref y0, .int (nI ksh)].toArray) below_ meth_ c_ H locs 0 0 (MQ below_ (Qi G th rh ph (fun r ka' => r = A_pour (sg ka) (nI ksh) ∧ Rel (S_pour (sg ka) (nI ksh)) (sg ka'))) ([.ref y0, .int (nI ksh)].toArray) s_ 0 0 (frG G)) (F0 m_ 26 ls []) := by
        intro fu_loop
        induction fu_loop with
        | zero => intro i ct kb hfu; exact absurd hfu (Nat.not_lt_zero _)
        | succ fu_loop ih_loop =>
          intro i ct kb hfu_loop hi hin hq2 hk1 hbu ls H locs hl hM
          refine lv_iload_n hx hb dX3_pour_26 rfl (lv_at hl 3 rfl) ?_
          refine lv_aload_n hx hb dX3_pour_27 rfl (lv_at hl 0 rfl) ?_
          refine r_getq B hM 26 hL.1 rfl (by decide) rfl rfl (hL.2 26 _ _ rfl).1 q1408 dX3_pour_28 ?_
          refine lv_iload_n hx hb dX3_pour_31 rfl (lv_at hl 1 rfl) ?_
          refine r_ild B hM ksh (hL.2 26 _ _ rfl).2 rfl (by omega) (by decide) dX3_pour_32 ?_
          refine r_topv (v := ka 1026 ksh) (congrFun (hbu 1026 (by decide)) _) ?_
          refine lv_icmp_ge (tgt := 120) hx hb dX3_pour_33 (by decide) (fun c33 => ?_) (fun c33 => ?_)
          · have n33 : z ≤ i := ntLe (by rw [hz]) rfl (by omega) (by omega) c33
            refine lv_iload_n hx hb dX3_pour_120 rfl (lv_at hl 2 rfl) ?_
            refine r_iret B hr hM dX3_pour_121 ?_
            have hmin : min (cl (sg ka 26 (cl (nI ksh)))) (nC (sg ka 0)) = i := by rw [hclksh]; show min (cl (ka 1026 ksh)) (nC (ka 1000)) = i; rw [hclz]; omega
            have hpo : poT (sg ka) (cl (nI ksh)) = (kb 1000, ct) := by unfold poT; rw [hmin, hclksh]; exact hq2
            have hg1 : ¬ ¬ inC (nI ksh) 4 := fun z => z hinksh
            have hg2 : ¬ sg ka 25 (cl (nI ksh)) < 0 := by rw [hclksh]; exact i_nlt.mpr c16
            constructor
            · show _ = A_pour (sg ka) (nI ksh); unfold A_pour; rw [if_neg hg1, if_neg hg2, hpo]
            · refine Rel.of ?_; rw [S_pour, if_neg hg1, if_neg hg2, hpo]; show up1 (sg ka) 0 (kb 1000) = sg kb; rw [← sg_up1 ka 0, ← But.eq1 hbu (fun _ => rfl)]
          · have n33 : i < z := ntNle (by rw [hz]) rfl (by omega) (by omega) c33
            refine lv_iload_n hx hb dX3_pour_36 rfl (lv_at hl 3 rfl) ?_
            refine lv_aload_n hx hb dX3_pour_37 rfl (lv_at hl 0 rfl) ?_
            refine r_getq B hM 0 hL.1 rfl (by decide) rfl rfl (hL.2 0 _ _ rfl).1 q1382 dX3_pour_38 ?_
            refine lv_iconst (v := 1) hx hb dX3_pour_41 (by decide) ?_
            refine r_ild B hM 1 (hL.2 0 _ _ rfl).2 rfl (by decide) (by decide) dX3_pour_42 ?_
            refine r_topv (v := ka 1000 1) hk1 ?_
            refine lv_icmp_ge (tgt := 120) hx hb dX3_pour_43 (by decide) (fun c43 => ?_) (fun c43 => ?_)
            · have n43 : nC (ka 1000) ≤ i := ntLe (by rw [hR.1.1]) rfl (by omega) (by omega) c43
              refine lv_iload_n hx hb dX3_pour_120 rfl (lv_at hl 2 rfl) ?_
              refine r_iret B hr hM dX3_pour_121 ?_
              have hmin : min (cl (sg ka 26 (cl (nI ksh)))) (nC (sg ka 0)) = i := by rw [hclksh]; show min (cl (ka 1026 ksh)) (nC (ka 1000)) = i; rw [hclz]; omega
              have hpo : poT (sg ka) (cl (nI ksh)) = (kb 1000, ct) := by unfold poT; rw [hmin, hclksh]; exact hq2
              have hg1 : ¬ ¬ inC (nI ksh) 4 := fun z => z hinksh
              have hg2 : ¬ sg ka 25 (cl (nI ksh)) < 0 := by rw [hclksh]; exact i_nlt.mpr c16
              constructor
              · show _ = A_pour (sg ka) (nI ksh); unfold A_pour; rw [if_neg hg1, if_neg hg2, hpo]
              · refine Rel.of ?_; rw [S_pour, if_neg hg1, if_neg hg2, hpo]; show up1 (sg ka) 0 (kb 1000) = sg kb; rw [← sg_up1 ka 0, ← But.eq1 hbu (fun _ => rfl)]
            · have n43 : i < nC (ka 1000) := ntNle (by rw [hR.1.1]) rfl (by omega) (by omega) c43
              refine lv_aload_n hx hb dX3_pour_46 rfl (lv_at hl 0 rfl) ?_
              refine r_getq B hM 27 hL.1 rfl (by decide) rfl rfl (hL.2 27 _ _ rfl).1 q1409 dX3_pour_47 ?_
              refine lv_bipush (v := 24) hx hb dX3_pour_50 (by decide) ?_
              refine lv_iload_n hx hb dX3_pour_52 rfl (lv_at hl 1 rfl) ?_
              refine lv_imul hx hb dX3_pour_53 ?_
              refine lv_iload_n hx hb dX3_pour_54 rfl (lv_at hl 3 rfl) ?_
              refine lv_iadd hx hb dX3_pour_55 ?_
              refine r_ild B hM (24 * ksh + i) (hL.2 27 _ _ rfl).2 (by simp only [nA, nMu, nL]) (by omega) (by decide) dX3_pour_56 ?_
              refine r_topv (v := ka 1027 (24 * ksh + i)) (congrFun (hbu 1027 (by decide)) _) ?_
              refine lv_topi (fun v_1 ev_1 => ?_)
              refine lv_istore (lv' := [(4, .int v_1), (0, .ref y0), (1, .int (nI ksh)), (2, .int ct), (3, .int (nI i))]) hx hb dX3_pour_57 hl (by decide) rfl (fun ls hl => ?_)
              refine lv_iload hx hb dX3_pour_59 (lv_at hl 0 rfl) ?_
              refine lv_ldc hx hb B.2.2.2.1 (B.ts _ q1681) dX3_pour_61 ?_
              refine lv_icmp_ne (tgt := 75) hx hb dX3_pour_63 (by decide) (fun c63 => ?_) (fun c63 => ?_)
              · refine lv_iload hx hb dX3_pour_75 (lv_at hl 0 rfl) ?_
                refine lv_iconst (v := 0) hx hb dX3_pour_77 (by decide) ?_
                refine lv_sipush (v := 999) hx hb dX3_pour_78 (by decide) ?_
                refine k_pe (v := wi v_1 0 999) (r_S (As := [.int v_1, .int 0, .int 999]) (rest := []) B hM (ok_within v_1 0 999) cal_X3_within q1526 rfl hl.1 (Nat.le_of_ble_eq_true rfl) dX3_pour_81 ⟨Nat.le_of_ble_eq_true rfl, Nat.le_of_ble_eq_true rfl⟩ ⟨Nat.le_of_ble_eq_true rfl, Nat.le_of_ble_eq_true rfl⟩) hM (fun H locs hM => ?_)
                refine lv_topi (fun v_2 ev_2 => ?_)
                refine lv_istore (lv' := [(5, .int v_2), (4, .int v_1), (0, .ref y0), (1, .int (nI ksh)), (2, .int ct), (3, .int (nI i))]) hx hb dX3_pour_84 hl (by decide) rfl (fun ls hl => ?_)
                refine lv_iload_n hx hb dX3_pour_86 rfl (lv_at hl 4 rfl) ?_
                refine lv_aload_n hx hb dX3_pour_87 rfl (lv_at hl 2 rfl) ?_
                refine lv_bipush (v := 7) hx hb dX3_pour_88 (by decide) ?_
                refine lv_bipush (v := 6) hx hb dX3_pour_90 (by decide) ?_
                refine lv_iload_n hx hb dX3_pour_92 rfl (lv_at hl 5 rfl) ?_
                refine lv_imul hx hb dX3_pour_93 ?_
                refine lv_iadd hx hb dX3_pour_94 ?_
                refine lv_iconst (v := 3) hx hb dX3_pour_95 (by decide) ?_
                refine lv_iadd hx hb dX3_pour_96 ?_
                refine lv_iload hx hb dX3_pour_97 (lv_at hl 0 rfl) ?_
                refine W.eq (g2 := F0 m_ 99 ls (.int v_2 :: .int (nI (7 + 6 * i + 3)) :: [.ref y0, .int ct])) (by rw [show (7 + (6 * (nI i))) + 3 = nI (7 + 6 * i + 3) from (by simp only [nA, nMu, nL])]) ?_
                refine k_i (r_V (As := [.int (nI (7 + 6 * i + 3)), .int v_2]) (rest := [.int ct]) B hM hL.1 rfl rfl (ok_becomes hL (i := 7 + 6 * i + 3) (by omega) v_2) cal_X3_becomes q1568 rfl hl.1 (Nat.le_of_ble_eq_true rfl) dX3_pour_99 ⟨Nat.le_of_ble_eq_true rfl, Nat.le_of_ble_eq_true rfl⟩ ⟨Nat.le_of_ble_eq_true rfl, Nat.le_of_ble_eq_true rfl⟩) hM (fun r_3 ka_4 H locs p_5 hM => ?_)
                obtain ⟨rfl, ec⟩ := p_5
                refine lv_iload hx hb dX3_pour_102 (lv_at hl 0 rfl) ?_
                refine lv_icmp_ne (tgt := 111) hx hb dX3_pour_104 (by decide) (fun c104 => ?_) (fun c104 => ?_)
                · refine lv_iconst (v := 1) hx hb dX3_pour_111 (by decide) ?_
                  refine lv_iadd hx hb dX3_pour_112 ?_
                  refine lv_topi (fun v_6 ev_6 => ?_)
                  refine lv_istore_n (lv' := [(2, .int v_6), (5, .int v_2), (4, .int v_1), (0, .ref y0), (1, .int (nI ksh)), (3, .int (nI i))]) hx hb dX3_pour_113 rfl hl (by decide) rfl (fun ls hl => ?_)
                  refine lv_iinc (v := nI (i + 1)) (lv' := [(3, .int (nI (i + 1))), (2, .int v_6), (5, .int v_2), (4, .int v_1), (0, .ref y0), (1, .int (nI ksh))]) hx hb dX3_pour_114 hl (k := 5) rfl (nI_1 _) (by decide) rfl (fun ls hl => ?_)
                  refine lv_goto (tgt := 26) hx hb dX3_pour_117 (by decide) ?_
                  have hv : v_2 = poV (kb 1000) i (ka 1027 (24 * ksh + i)) := by unfold poV; rw [if_neg (by rw [← ev_1]; exact c63)]; rw [ev_2, ev_1]
                  exact ih_loop (i + 1) v_6 ka_4 (by omega) (by omega) (by omega) (by show poS _ _ i (itn _ i _) = _; rw [hq2]; simp only [poS]; rw [← hv, if_neg c104, ec, up2_row, ev_6]; rfl) (by rw [ec, up2_i _ _ _ _ (by omega)]; exact hk1) (by rw [ec]; exact But.trans hbu (But.up (by decide))) _ _ _ (lv_sub hl [4, 5, 1, 0] rfl) hM
                · refine lv_iconst (v := 0) hx hb dX3_pour_107 (by decide) ?_
                  refine lv_goto (tgt := 112) hx hb dX3_pour_108 (by decide) ?_
                  refine lv_iadd hx hb dX3_pour_112 ?_
                  refine lv_topi (fun v_7 ev_7 => ?_)
                  refine lv_istore_n (lv' := [(2, .int v_7), (5, .int v_2), (4, .int v_1), (0, .ref y0), (1, .int (nI ksh)), (3, .int (nI i))]) hx hb dX3_pour_113 rfl hl (by decide) rfl (fun ls hl => ?_)
                  refine lv_iinc (v := nI (i + 1)) (lv' := [(3, .int (nI (i + 1))), (2, .int v_7), (5, .int v_2), (4, .int v_1), (0, .ref y0), (1, .int (nI ksh))]) hx hb dX3_pour_114 hl (k := 5) rfl (nI_1 _) (by decide) rfl (fun ls hl => ?_)
                  refine lv_goto (tgt := 26) hx hb dX3_pour_117 (by decide) ?_
                  have hv : v_2 = poV (kb 1000) i (ka 1027 (24 * ksh + i)) := by unfold poV; rw [if_neg (by rw [← ev_1]; exact c63)]; rw [ev_2, ev_1]
                  exact ih_loop (i + 1) v_7 ka_4 (by omega) (by omega) (by omega) (by show poS _ _ i (itn _ i _) = _; rw [hq2]; simp only [poS]; rw [← hv, if_pos c104, ec, up2_row, ev_7]; rfl) (by rw [ec, up2_i _ _ _ _ (by omega)]; exact hk1) (by rw [ec]; exact But.trans hbu (But.up (by decide))) _ _ _ (lv_sub hl [4, 5, 1, 0] rfl) hM
              · refine lv_aload_n hx hb dX3_pour_66 rfl (lv_at hl 1 rfl) ?_
                refine lv_iload_n hx hb dX3_pour_67 rfl (lv_at hl 4 rfl) ?_
                refine lv_iconst (v := 3) hx hb dX3_pour_68 (by decide) ?_
                refine k_pe (v := kb 1000 (7 + 6 * i + 3)) (r_V (As := [.int (nI i), .int 3]) (rest := []) B hM hL.1 rfl rfl (ok_of hL (c := i) (w := 3) (by omega) (by omega)) cal_X3_of q1510 rfl hl.1 (Nat.le_of_ble_eq_true rfl) dX3_pour_69 ⟨Nat.le_of_ble_eq_true rfl, Nat.le_of_ble_eq_true rfl⟩ ⟨Nat.le_of_ble_eq_true rfl, Nat.le_of_ble_eq_true rfl⟩) hM (fun H locs hM => ?_)
                refine lv_goto (tgt := 84) hx hb dX3_pour_72 (by decide) ?_
                refine lv_topi (fun v_8 ev_8 => ?_)
                refine lv_istore (lv' := [(5, .int v_8), (4, .int v_1), (0, .ref y0), (1, .int (nI ksh)), (2, .int ct), (3, .int (nI i))]) hx hb dX3_pour_84 hl (by decide) rfl (fun ls hl => ?_)
                refine lv_iload_n hx hb dX3_pour_86 rfl (lv_at hl 4 rfl) ?_
                refine lv_aload_n hx hb dX3_pour_87 rfl (lv_at hl 2 rfl) ?_
                refine lv_bipush (v := 7) hx hb dX3_pour_88 (by decide) ?_
                refine lv_bipush (v := 6) hx hb dX3_pour_90 (by decide) ?_
                refine lv_iload_n hx hb dX3_pour_92 rfl (lv_at hl 5 rfl) ?_
                refine lv_imul hx hb dX3_pour_93 ?_
                refine lv_iadd hx hb dX3_pour_94 ?_
                refine lv_iconst (v := 3) hx hb dX3_pour_95 (by decide) ?_
                refine lv_iadd hx hb dX3_pour_96 ?_
                refine lv_iload hx hb dX3_pour_97 (lv_at hl 0 rfl) ?_
                refine W.eq (g2 := F0 m_ 99 ls (.int v_8 :: .int (nI (7 + 6 * i + 3)) :: [.ref y0, .int ct])) (by rw [show (7 + (6 * (nI i))) + 3 = nI (7 + 6 * i + 3) from (by simp only [nA, nMu, nL])]) ?_
                refine k_i (r_V (As := [.int (nI (7 + 6 * i + 3)), .int v_8]) (rest := [.int ct]) B hM hL.1 rfl rfl (ok_becomes hL (i := 7 + 6 * i + 3) (by omega) v_8) cal_X3_becomes q1568 rfl hl.1 (Nat.le_of_ble_eq_true rfl) dX3_pour_99 ⟨Nat.le_of_ble_eq_true rfl, Nat.le_of_ble_eq_true rfl⟩ ⟨Nat.le_of_ble_eq_true rfl, Nat.le_of_ble_eq_true rfl⟩) hM (fun r_9 ka_10 H locs p_11 hM => ?_)
                obtain ⟨rfl, ec⟩ := p_11
                refine lv_iload hx hb dX3_pour_102 (lv_at hl 0 rfl) ?_
                refine lv_icmp_ne (tgt := 111) hx hb dX3_pour_104 (by decide) (fun c104 => ?_) (fun c104 => ?_)
                · refine lv_iconst (v := 1) hx hb dX3_pour_111 (by decide) ?_
                  refine lv_iadd hx hb dX3_pour_112 ?_
                  refine lv_topi (fun v_12 ev_12 => ?_)
                  refine lv_istore_n (lv' := [(2, .int v_12), (5, .int v_8), (4, .int v_1), (0, .ref y0), (1, .int (nI ksh)), (3, .int (nI i))]) hx hb dX3_pour_113 rfl hl (by decide) rfl (fun ls hl => ?_)
                  refine lv_iinc (v := nI (i + 1)) (lv' := [(3, .int (nI (i + 1))), (2, .int v_12), (5, .int v_8), (4, .int v_1), (0, .ref y0), (1, .int (nI ksh))]) hx hb dX3_pour_114 hl (k := 5) rfl (nI_1 _) (by decide) rfl (fun ls hl => ?_)
                  refine lv_goto (tgt := 26) hx hb dX3_pour_117 (by decide) ?_
                  have hv : v_8 = poV (kb 1000) i (ka 1027 (24 * ksh + i)) := by unfold poV; rw [if_pos (by rw [← ev_1]; exact c63)]; exact ev_8
                  exact ih_loop (i + 1) v_12 ka_10 (by omega) (by omega) (by omega) (by show poS _ _ i (itn _ i _) = _; rw [hq2]; simp only [poS]; rw [← hv, if_neg c104, ec, up2_row, ev_12]; rfl) (by rw [ec, up2_i _ _ _ _ (by omega)]; exact hk1) (by rw [ec]; exact But.trans hbu (But.up (by decide))) _ _ _ (lv_sub hl [4, 5, 1, 0] rfl) hM
                · refine lv_iconst (v := 0) hx hb dX3_pour_107 (by decide) ?_
                  refine lv_goto (tgt := 112) hx hb dX3_pour_108 (by decide) ?_
                  refine lv_iadd hx hb dX3_pour_112 ?_
                  refine lv_topi (fun v_13 ev_13 => ?_)
                  refine lv_istore_n (lv' := [(2, .int v_13), (5, .int v_8), (4, .int v_1), (0, .ref y0), (1, .int (nI ksh)), (3, .int (nI i))]) hx hb dX3_pour_113 rfl hl (by decide) rfl (fun ls hl => ?_)
                  refine lv_iinc (v := nI (i + 1)) (lv' := [(3, .int (nI (i + 1))), (2, .int v_13), (5, .int v_8), (4, .int v_1), (0, .ref y0), (1, .int (nI ksh))]) hx hb dX3_pour_114 hl (k := 5) rfl (nI_1 _) (by decide) rfl (fun ls hl => ?_)
                  refine lv_goto (tgt := 26) hx hb dX3_pour_117 (by decide) ?_
                  have hv : v_8 = poV (kb 1000) i (ka 1027 (24 * ksh + i)) := by unfold poV; rw [if_pos (by rw [← ev_1]; exact c63)]; exact ev_8
                  exact ih_loop (i + 1) v_13 ka_10 (by omega) (by omega) (by omega) (by show poS _ _ i (itn _ i _) = _; rw [hq2]; simp only [poS]; rw [← hv, if_pos c104, ec, up2_row, ev_13]; rfl) (by rw [ec, up2_i _ _ _ _ (by omega)]; exact hk1) (by rw [ec]; exact But.trans hbu (But.up (by decide))) _ _ _ (lv_sub hl [4, 5, 1, 0] rfl) hM
      refine lv_iconst (v := 0) hx hb dX3_pour_22 (by decide) ?_
      refine lv_istore_n (lv' := [(2, .int 0), (0, .ref y0), (1, .int (nI ksh))]) hx hb dX3_pour_23 rfl hl (by decide) rfl (fun ls hl => ?_)
      refine lv_iconst (v := 0) hx hb dX3_pour_24 (by decide) ?_
      refine lv_istore_n (lv' := [(3, .int 0), (2, .int 0), (0, .ref y0), (1, .int (nI ksh))]) hx hb dX3_pour_25 rfl hl (by decide) rfl (fun ls hl => ?_)
      exact loop (z + 1) 0 0 ka (by omega) (Nat.zero_le _) (Nat.zero_le _) rfl rfl But.refl _ _ _ (lv_sub hl [2, 3, 1, 0] rfl) hM
    · refine lv_ldc hx hb B.2.2.2.1 (B.ts _ q1713) dX3_pour_19 ?_
      refine r_iret B hr hM dX3_pour_21 ?_
      constructor
      · simp only [A_pour, sg0, sg1, sg7, sg25, sg26, sg27, sg28, sg29, sg30, sg31, sg33, sg99, hclksh] <;> grind
      · refine Rel.of ?_; simp only [S_pour, sg0, sg1, sg7, sg25, sg26, sg27, sg28, sg29, sg30, sg31, sg33, sg99, hclksh] <;> grind
  · refine lv_if_ne (tgt := 10) hx hb dX3_pour_4 (by decide) (fun cZ => absurd (by decide) cZ) (fun c4 => ?_)
    refine lv_ldc hx hb B.2.2.2.1 (B.ts _ q1496) dX3_pour_7 ?_
    refine r_iret B hr hM dX3_pour_9 ?_
    have ib1 := mt (inC_iff (n := 4) (by omega)).mp b1
    constructor
    · simp only [A_pour, sg0, sg1, sg7, sg25, sg26, sg27, sg28, sg29, sg30, sg31, sg33, sg99] <;> grind
    · refine Rel.of ?_; simp only [S_pour, sg0, sg1, sg7, sg25, sg26, sg27, sg28, sg29, sg30, sg31, sg33, sg99] <;> grind
set_option maxHeartbeats 4000000 in
theorem ok_reads (hL : LayM th rh y0 ay) (hS : Sok (sg ka)) (sh : Int32) : Met l yX3_reads (ws_ yX3_reads cX3_reads 4 (some .int)) (RM 7 0 0) (Pc_ G [.ref y0, .int sh] th rh ph ka) (Qi G th rh ph (fun r ka' => r = A_reads (sg ka) sh ∧ Rel (sg ka) (sg ka'))) 0 0 (frG G) := by
  refine m_of (by decide) (Nat.le_of_ble_eq_true rfl) ?_
  intro p_ e_ s_ m_ below_ meth_ c_ B hr hnm ls hl hM
  have hx := B.1
  have hb := B.2.1
  have hM := hM
  have hR := hS.r
  have h8 := hR.1.2
  have h13 := hR.2.1.2
  have h14 := hR.2.2.1.2
  refine lv_iload_n hx hb dX3_reads_0 rfl (lv_at hl 1 rfl) ?_
  refine k_pb (r_S (As := [.int sh]) (rest := []) B hM (ok_isSheet sh) cal_X3_isSheet q1710 rfl hl.1 (Nat.le_of_ble_eq_true rfl) dX3_reads_1 ⟨Nat.le_of_ble_eq_true rfl, Nat.le_of_ble_eq_true rfl⟩ ⟨Nat.le_of_ble_eq_true rfl, Nat.le_of_ble_eq_true rfl⟩) hM (fun H locs b1 hM => ?_) (fun H locs b1 hM => ?_)
  · obtain ⟨ksh, hksh, rfl⟩ := b1
    have hinksh : inC (nI ksh) (4) := (inC_iff (by omega)).mpr ⟨ksh, hksh, rfl⟩
    have hclksh : cl (nI ksh) = ksh := cl_nI (by omega)
    refine lv_if_ne (tgt := 10) hx hb dX3_reads_4 (by decide) (fun c4 => ?_) (fun cZ => absurd cZ (by decide))
    refine lv_aload_n hx hb dX3_reads_10 rfl (lv_at hl 0 rfl) ?_
    refine r_getq B hM 25 hL.1 rfl (by decide) rfl rfl (hL.2 25 _ _ rfl).1 q1407 dX3_reads_11 ?_
    refine lv_iload_n hx hb dX3_reads_14 rfl (lv_at hl 1 rfl) ?_
    refine r_ild B hM ksh (hL.2 25 _ _ rfl).2 rfl (by omega) (by decide) dX3_reads_15 ?_
    refine lv_if_ge (tgt := 22) hx hb dX3_reads_16 (by decide) (fun c16 => ?_) (fun c16 => ?_)
    · obtain ⟨z, hz24, hz⟩ := hS.sz hksh
      have hclz : cl (ka 1026 ksh) = z := by rw [hz]; exact cl_nI (by omega)
      have loop : ∀ (fu_loop : Nat) (i : Nat) (kb : Ka), z - i < fu_loop → (i ≤ z) → (rdT (sg ka) ksh (z - i) i = rdT (sg ka) ksh z 0) → (But [1023, 1024] ka kb) → ∀ (ls : Array Slot) (H : Heap) (locs : List Loc), lv_has ls 4 [(0, .ref y0), (1, .int (nI ksh)), (2, .int (nI i))] → Md G th rh ph kb H locs → W p_ l e_ (RM 7 0 0) s_ m_ ([.ref y0, .int (nI ksh)].toArray) below_ meth_ c_ H locs 0 0 (MQ below_ (Qi G th rh ph (fun r ka' => r = A_reads (sg ka) (nI ksh) ∧ Rel (sg ka) (sg ka'))) ([.ref y0, .int (nI ksh)].toArray) s_ 0 0 (frG G)) (F0 m_ 24 ls []) := by
        intro fu_loop
        induction fu_loop with
        | zero => intro i kb hfu; exact absurd hfu (Nat.not_lt_zero _)
        | succ fu_loop ih_loop =>
          intro i kb hfu_loop hi hq2 hbu ls H locs hl hM
          refine lv_iload_n hx hb dX3_reads_24 rfl (lv_at hl 2 rfl) ?_
          refine lv_aload_n hx hb dX3_reads_25 rfl (lv_at hl 0 rfl) ?_
          refine r_getq B hM 26 hL.1 rfl (by decide) rfl rfl (hL.2 26 _ _ rfl).1 q1408 dX3_reads_26 ?_
          refine lv_iload_n hx hb dX3_reads_29 rfl (lv_at hl 1 rfl) ?_
          refine r_ild B hM ksh (hL.2 26 _ _ rfl).2 rfl (by omega) (by decide) dX3_reads_30 ?_
          refine r_topv (v := ka 1026 ksh) (congrFun (hbu 1026 (by decide)) _) ?_
          refine lv_icmp_ge (tgt := 77) hx hb dX3_reads_31 (by decide) (fun c31 => ?_) (fun c31 => ?_)
          · have n31 : z ≤ i := ntLe (by rw [hz]) rfl (by omega) (by omega) c31
            refine lv_ldc hx hb B.2.2.2.1 (B.ts _ q1681) dX3_reads_77 ?_
            refine r_iret B hr hM dX3_reads_79 ?_
            have hg1 : ¬ ¬ inC (nI ksh) 4 := fun z => z hinksh
            have hg2 : ¬ sg ka 25 (cl (nI ksh)) < 0 := by rw [hclksh]; exact i_nlt.mpr c16
            have hsz : cl (sg ka 26 (cl (nI ksh))) = z := by rw [hclksh]; exact hclz
            constructor
            · show _ = A_reads (sg ka) (nI ksh); unfold A_reads; rw [if_neg hg1, if_neg hg2, hsz, hclksh, ← hq2]; rw [show z - i = 0 by omega]; rfl
            · exact But.rel hbu (by decide)
          · have n31 : i < z := ntNle (by rw [hz]) rfl (by omega) (by omega) c31
            refine lv_aload_n hx hb dX3_reads_34 rfl (lv_at hl 0 rfl) ?_
            refine r_getq B hM 27 hL.1 rfl (by decide) rfl rfl (hL.2 27 _ _ rfl).1 q1409 dX3_reads_35 ?_
            refine lv_bipush (v := 24) hx hb dX3_reads_38 (by decide) ?_
            refine lv_iload_n hx hb dX3_reads_40 rfl (lv_at hl 1 rfl) ?_
            refine lv_imul hx hb dX3_reads_41 ?_
            refine lv_iload_n hx hb dX3_reads_42 rfl (lv_at hl 2 rfl) ?_
            refine lv_iadd hx hb dX3_reads_43 ?_
            refine r_ild B hM (24 * ksh + i) (hL.2 27 _ _ rfl).2 (by simp only [nA, nMu, nL]) (by omega) (by decide) dX3_reads_44 ?_
            refine r_topv (v := ka 1027 (24 * ksh + i)) (congrFun (hbu 1027 (by decide)) _) ?_
            refine lv_topi (fun v_1 ev_1 => ?_)
            refine lv_istore_n (lv' := [(3, .int v_1), (0, .ref y0), (1, .int (nI ksh)), (2, .int (nI i))]) hx hb dX3_reads_45 rfl hl (by decide) rfl (fun ls hl => ?_)
            refine lv_iload_n hx hb dX3_reads_46 rfl (lv_at hl 0 rfl) ?_
            refine lv_ldc hx hb B.2.2.2.1 (B.ts _ q1681) dX3_reads_47 ?_
            refine lv_icmp_eq (tgt := 71) hx hb dX3_reads_49 (by decide) (fun c49 => ?_) (fun c49 => ?_)
            · refine lv_iinc (v := nI (i + 1)) (lv' := [(2, .int (nI (i + 1))), (3, .int v_1), (0, .ref y0), (1, .int (nI ksh))]) hx hb dX3_reads_71 hl (k := 3) rfl (nI_1 _) (by decide) rfl (fun ls hl => ?_)
              refine lv_goto (tgt := 24) hx hb dX3_reads_74 (by decide) ?_
              exact ih_loop (i + 1) kb (by omega) (by omega) (by rw [← hq2, show z - i = (z - (i + 1)) + 1 by omega]; exact (if_neg (fun q => q.1 (by rw [show sg ka 27 (24 * ksh + i) = v_1 from ev_1.symm]; exact c49))).symm) hbu _ _ _ (lv_sub hl [2, 3, 0] rfl) hM
            · refine lv_aload_n hx hb dX3_reads_52 rfl (lv_at hl 1 rfl) ?_
              refine lv_iload_n hx hb dX3_reads_53 rfl (lv_at hl 3 rfl) ?_
              refine k_pb (r_V (As := [.int (nI i)]) (rest := []) B hM hL.1 rfl rfl (ok_isCellar hL (by rw [(hbu 1000 (by decide))]; exact hR) (nI i)) cal_X3_isCellar q1506 rfl hl.1 (Nat.le_of_ble_eq_true rfl) dX3_reads_54 ⟨Nat.le_of_ble_eq_true rfl, Nat.le_of_ble_eq_true rfl⟩ ⟨Nat.le_of_ble_eq_true rfl, Nat.le_of_ble_eq_true rfl⟩) hM (fun H locs b54 hM => ?_) (fun H locs b54 hM => ?_)
              · rw [hbu 1000 (by decide)] at b54
                have hin : i < nC (ka 1000) := by obtain ⟨k2, hk2, ek2⟩ := b54; have := ntEq rfl rfl (by omega) (by omega) ek2; omega
                refine lv_if_eq (tgt := 69) hx hb dX3_reads_57 (by decide) (fun cZ => absurd cZ (by decide)) (fun c57 => ?_)
                refine lv_iload_n hx hb dX3_reads_60 rfl (lv_at hl 0 rfl) ?_
                refine lv_aload_n hx hb dX3_reads_61 rfl (lv_at hl 1 rfl) ?_
                refine lv_iload_n hx hb dX3_reads_62 rfl (lv_at hl 3 rfl) ?_
                refine k_i (r_V (As := [.int (nI i)]) (rest := [.int v_1]) B hM hL.1 rfl rfl (ok_levelOf hL (by rw [(hbu 1000 (by decide))]; exact hR) (c := i) (by omega)) cal_X3_levelOf q1536 rfl hl.1 (Nat.le_of_ble_eq_true rfl) dX3_reads_63 ⟨Nat.le_of_ble_eq_true rfl, Nat.le_of_ble_eq_true rfl⟩ ⟨Nat.le_of_ble_eq_true rfl, Nat.le_of_ble_eq_true rfl⟩) hM (fun r_2 ka_3 H locs p_4 hM => ?_)
                obtain ⟨rfl, hq⟩ := p_4
                have hB_3 : But [1023, 1024] ka ka_3 := But.trans hbu (But.mono hq (by decide))
                refine r_topv (v := levelT (ka 1000) i) (by rw [(hbu 1000 (by decide))]) ?_
                refine lv_icmp_eq (tgt := 71) hx hb dX3_reads_66 (by decide) (fun c66 => ?_) (fun c66 => ?_)
                · refine lv_iinc (v := nI (i + 1)) (lv' := [(2, .int (nI (i + 1))), (3, .int v_1), (0, .ref y0), (1, .int (nI ksh))]) hx hb dX3_reads_71 hl (k := 3) rfl (nI_1 _) (by decide) rfl (fun ls hl => ?_)
                  refine lv_goto (tgt := 24) hx hb dX3_reads_74 (by decide) ?_
                  exact ih_loop (i + 1) ka_3 (by omega) (by omega) (by rw [← hq2, show z - i = (z - (i + 1)) + 1 by omega]; exact (if_neg (fun q => q.2.elim (fun w => w hin) (fun w => w (by rw [show sg ka 27 (24 * ksh + i) = v_1 from ev_1.symm]; exact c66)))).symm) hB_3 _ _ _ (lv_sub hl [2, 3, 0] rfl) hM
                · refine lv_iload_n hx hb dX3_reads_69 rfl (lv_at hl 3 rfl) ?_
                  refine r_iret B hr hM dX3_reads_70 ?_
                  have hg1 : ¬ ¬ inC (nI ksh) 4 := fun z => z hinksh
                  have hg2 : ¬ sg ka 25 (cl (nI ksh)) < 0 := by rw [hclksh]; exact i_nlt.mpr c16
                  have hsz : cl (sg ka 26 (cl (nI ksh))) = z := by rw [hclksh]; exact hclz
                  constructor
                  · show _ = A_reads (sg ka) (nI ksh); unfold A_reads; rw [if_neg hg1, if_neg hg2, hsz, hclksh, ← hq2]; rw [show z - i = (z - (i + 1)) + 1 by omega]; exact (if_pos ⟨by rw [show sg ka 27 (24 * ksh + i) = v_1 from ev_1.symm]; exact c49, Or.inr (by rw [show sg ka 27 (24 * ksh + i) = v_1 from ev_1.symm]; exact c66)⟩).symm
                  · exact But.rel hB_3 (by decide)
              · rw [hbu 1000 (by decide)] at b54
                have hin : ¬ i < nC (ka 1000) := fun q => b54 ⟨i, q, rfl⟩
                refine lv_if_eq (tgt := 69) hx hb dX3_reads_57 (by decide) (fun c57 => ?_) (fun cZ => absurd (by decide) cZ)
                refine lv_iload_n hx hb dX3_reads_69 rfl (lv_at hl 3 rfl) ?_
                refine r_iret B hr hM dX3_reads_70 ?_
                have hg1 : ¬ ¬ inC (nI ksh) 4 := fun z => z hinksh
                have hg2 : ¬ sg ka 25 (cl (nI ksh)) < 0 := by rw [hclksh]; exact i_nlt.mpr c16
                have hsz : cl (sg ka 26 (cl (nI ksh))) = z := by rw [hclksh]; exact hclz
                constructor
                · show _ = A_reads (sg ka) (nI ksh); unfold A_reads; rw [if_neg hg1, if_neg hg2, hsz, hclksh, ← hq2]; rw [show z - i = (z - (i + 1)) + 1 by omega]; exact (if_pos ⟨by rw [show sg ka 27 (24 * ksh + i) = v_1 from ev_1.symm]; exact c49, Or.inl hin⟩).symm
                · exact But.rel hbu (by decide)
      refine lv_iconst (v := 0) hx hb dX3_reads_22 (by decide) ?_
      refine lv_istore_n (lv' := [(2, .int 0), (0, .ref y0), (1, .int (nI ksh))]) hx hb dX3_reads_23 rfl hl (by decide) rfl (fun ls hl => ?_)
      exact loop (z + 1) 0 ka (by omega) (Nat.zero_le _) rfl But.refl _ _ _ (lv_sub hl [1, 2, 0] rfl) hM
    · refine lv_ldc hx hb B.2.2.2.1 (B.ts _ q1713) dX3_reads_19 ?_
      refine r_iret B hr hM dX3_reads_21 ?_
      constructor
      · simp only [A_reads, sg0, sg1, sg7, sg25, sg26, sg27, sg28, sg29, sg30, sg31, sg33, sg99, hclksh] <;> grind
      · exact Rel.refl
  · refine lv_if_ne (tgt := 10) hx hb dX3_reads_4 (by decide) (fun cZ => absurd (by decide) cZ) (fun c4 => ?_)
    refine lv_ldc hx hb B.2.2.2.1 (B.ts _ q1496) dX3_reads_7 ?_
    refine r_iret B hr hM dX3_reads_9 ?_
    have ib1 := mt (inC_iff (n := 4) (by omega)).mp b1
    constructor
    · simp only [A_reads, sg0, sg1, sg7, sg25, sg26, sg27, sg28, sg29, sg30, sg31, sg33, sg99] <;> grind
    · exact Rel.refl
end
