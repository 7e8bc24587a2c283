/-! the model: texts, sign by sign -/
set_option maxRecDepth 100000
section
variable {l : Launch} {G : GG} {th : Th} {rh : Rh} {ph : Ph} {ka : Ka} {y0 : Nat} {ay : Nat → Nat}
set_option maxHeartbeats 4000000 in
theorem ok_isLetter (hL : LayM th rh y0 ay) {n : Nat} (hn96 : n ≤ 96) (hn : ka 1099 8 = nI n) {k : Nat} (hk : k ≤ n) : Met l yX3_isLetter (ws_ yX3_isLetter cX3_isLetter 2 (some .boolean)) (RM 1 0 0) (Pc_ G [.ref y0, .int (nI k)] th rh ph ka) (Qp G th rh ph ka (fun r => (r = 1 ∧ ltr (ka 1007) n k) ∨ (r = 0 ∧ ¬ ltr (ka 1007) n k))) 0 0 (frG G) := by
  refine m_of (by decide) (Nat.le_of_ble_eq_true rfl) ?_
  intro p_ e_ s_ m_ below_ meth_ c_ B hr hnm ls hl hM
  have hx := B.1
  have hb := B.2.1
  have hM := hM
  refine lv_iload_n hx hb dX3_isLetter_0 rfl (lv_at hl 1 rfl) ?_
  refine lv_aload_n hx hb dX3_isLetter_1 rfl (lv_at hl 0 rfl) ?_
  refine r_geti B hM 8 hL.1 rfl (by decide) rfl rfl q1390 dX3_isLetter_2 ?_
  refine lv_icmp_ge (tgt := 34) hx hb dX3_isLetter_5 (by decide) (fun c5 => ?_) (fun c5 => ?_)
  · have n5 : n ≤ k := ntLe (by rw [hn]) rfl (by omega) (by omega) c5
    refine lv_iconst (v := 0) hx hb dX3_isLetter_34 (by decide) ?_
    refine r_zretp B hr hM dX3_isLetter_35 (Or.inl rfl) ?_
    exact Or.inr ⟨rfl, fun q => absurd q.1 (by omega)⟩
  · have n5 : k < n := ntNle (by rw [hn]) rfl (by omega) (by omega) c5
    refine lv_aload_n hx hb dX3_isLetter_8 rfl (lv_at hl 0 rfl) ?_
    refine r_getq B hM 7 hL.1 rfl (by decide) rfl rfl (hL.2 7 _ _ rfl).1 q1389 dX3_isLetter_9 ?_
    refine lv_iload_n hx hb dX3_isLetter_12 rfl (lv_at hl 1 rfl) ?_
    refine r_ild B hM k (hL.2 7 _ _ rfl).2 rfl (by omega) (by decide) dX3_isLetter_13 ?_
    refine lv_bipush (v := 97) hx hb dX3_isLetter_14 (by decide) ?_
    refine lv_icmp_lt (tgt := 34) hx hb dX3_isLetter_16 (by decide) (fun c16 => ?_) (fun c16 => ?_)
    · refine lv_iconst (v := 0) hx hb dX3_isLetter_34 (by decide) ?_
      refine r_zretp B hr hM dX3_isLetter_35 (Or.inl rfl) ?_
      exact Or.inr ⟨rfl, fun q => absurd q.2.1 (i_nle.mpr c16)⟩
    · refine lv_aload_n hx hb dX3_isLetter_19 rfl (lv_at hl 0 rfl) ?_
      refine r_getq B hM 7 hL.1 rfl (by decide) rfl rfl (hL.2 7 _ _ rfl).1 q1389 dX3_isLetter_20 ?_
      refine lv_iload_n hx hb dX3_isLetter_23 rfl (lv_at hl 1 rfl) ?_
      refine r_ild B hM k (hL.2 7 _ _ rfl).2 rfl (by omega) (by decide) dX3_isLetter_24 ?_
      refine lv_bipush (v := 122) hx hb dX3_isLetter_25 (by decide) ?_
      refine lv_icmp_gt (tgt := 34) hx hb dX3_isLetter_27 (by decide) (fun c27 => ?_) (fun c27 => ?_)
      · refine lv_iconst (v := 0) hx hb dX3_isLetter_34 (by decide) ?_
        refine r_zretp B hr hM dX3_isLetter_35 (Or.inl rfl) ?_
        exact Or.inr ⟨rfl, fun q => absurd q.2.2 (i_nle.mpr c27)⟩
      · refine lv_iconst (v := 1) hx hb dX3_isLetter_30 (by decide) ?_
        refine lv_goto (tgt := 35) hx hb dX3_isLetter_31 (by decide) ?_
        refine r_zretp B hr hM dX3_isLetter_35 (Or.inr rfl) ?_
        exact Or.inl ⟨rfl, by omega, i_nlt.mp c16, i_nlt.mp c27⟩
set_option maxHeartbeats 4000000 in
theorem ok_isFigure (hL : LayM th rh y0 ay) {n : Nat} (hn96 : n ≤ 96) (hn : ka 1099 8 = nI n) {k : Nat} (hk : k ≤ n) : Met l yX3_isFigure (ws_ yX3_isFigure cX3_isFigure 2 (some .boolean)) (RM 1 0 0) (Pc_ G [.ref y0, .int (nI k)] th rh ph ka) (Qp G th rh ph ka (fun r => (r = 1 ∧ fig (ka 1007) n k) ∨ (r = 0 ∧ ¬ fig (ka 1007) n k))) 0 0 (frG G) := by
  refine m_of (by decide) (Nat.le_of_ble_eq_true rfl) ?_
  intro p_ e_ s_ m_ below_ meth_ c_ B hr hnm ls hl hM
  have hx := B.1
  have hb := B.2.1
  have hM := hM
  refine lv_iload_n hx hb dX3_isFigure_0 rfl (lv_at hl 1 rfl) ?_
  refine lv_aload_n hx hb dX3_isFigure_1 rfl (lv_at hl 0 rfl) ?_
  refine r_geti B hM 8 hL.1 rfl (by decide) rfl rfl q1390 dX3_isFigure_2 ?_
  refine lv_icmp_ge (tgt := 34) hx hb dX3_isFigure_5 (by decide) (fun c5 => ?_) (fun c5 => ?_)
  · have n5 : n ≤ k := ntLe (by rw [hn]) rfl (by omega) (by omega) c5
    refine lv_iconst (v := 0) hx hb dX3_isFigure_34 (by decide) ?_
    refine r_zretp B hr hM dX3_isFigure_35 (Or.inl rfl) ?_
    exact Or.inr ⟨rfl, fun q => absurd q.1 (by omega)⟩
  · have n5 : k < n := ntNle (by rw [hn]) rfl (by omega) (by omega) c5
    refine lv_aload_n hx hb dX3_isFigure_8 rfl (lv_at hl 0 rfl) ?_
    refine r_getq B hM 7 hL.1 rfl (by decide) rfl rfl (hL.2 7 _ _ rfl).1 q1389 dX3_isFigure_9 ?_
    refine lv_iload_n hx hb dX3_isFigure_12 rfl (lv_at hl 1 rfl) ?_
    refine r_ild B hM k (hL.2 7 _ _ rfl).2 rfl (by omega) (by decide) dX3_isFigure_13 ?_
    refine lv_bipush (v := 48) hx hb dX3_isFigure_14 (by decide) ?_
    refine lv_icmp_lt (tgt := 34) hx hb dX3_isFigure_16 (by decide) (fun c16 => ?_) (fun c16 => ?_)
    · refine lv_iconst (v := 0) hx hb dX3_isFigure_34 (by decide) ?_
      refine r_zretp B hr hM dX3_isFigure_35 (Or.inl rfl) ?_
      exact Or.inr ⟨rfl, fun q => absurd q.2.1 (i_nle.mpr c16)⟩
    · refine lv_aload_n hx hb dX3_isFigure_19 rfl (lv_at hl 0 rfl) ?_
      refine r_getq B hM 7 hL.1 rfl (by decide) rfl rfl (hL.2 7 _ _ rfl).1 q1389 dX3_isFigure_20 ?_
      refine lv_iload_n hx hb dX3_isFigure_23 rfl (lv_at hl 1 rfl) ?_
      refine r_ild B hM k (hL.2 7 _ _ rfl).2 rfl (by omega) (by decide) dX3_isFigure_24 ?_
      refine lv_bipush (v := 57) hx hb dX3_isFigure_25 (by decide) ?_
      refine lv_icmp_gt (tgt := 34) hx hb dX3_isFigure_27 (by decide) (fun c27 => ?_) (fun c27 => ?_)
      · refine lv_iconst (v := 0) hx hb dX3_isFigure_34 (by decide) ?_
        refine r_zretp B hr hM dX3_isFigure_35 (Or.inl rfl) ?_
        exact Or.inr ⟨rfl, fun q => absurd q.2.2 (i_nle.mpr c27)⟩
      · refine lv_iconst (v := 1) hx hb dX3_isFigure_30 (by decide) ?_
        refine lv_goto (tgt := 35) hx hb dX3_isFigure_31 (by decide) ?_
        refine r_zretp B hr hM dX3_isFigure_35 (Or.inr rfl) ?_
        exact Or.inl ⟨rfl, by omega, i_nlt.mp c16, i_nlt.mp c27⟩
set_option maxHeartbeats 4000000 in
theorem ok_go (hL : LayM th rh y0 ay) {n : Nat} (hn96 : n ≤ 96) (hn : ka 1099 8 = nI n) {x : Nat} (hxn : x ≤ n) (hx9 : ka 1099 9 = nI x) : Met l yX3_go (ws_ yX3_go cX3_go 2 none) (RM 2 0 0) (Pc_ G [.ref y0] th rh ph ka) (Qv G th rh ph (fun ka' => ka' = up1 ka 1099 (goF (ka 1007) (ka 1099)))) 0 0 (frG G) := by
  refine m_of (by decide) (Nat.le_of_ble_eq_true rfl) ?_
  intro p_ e_ s_ m_ below_ meth_ c_ B hr hnm ls hl hM
  have hx := B.1
  have hb := B.2.1
  have hM := hM
  have loop0 : ∀ (fu_loop0 : Nat) (i : Nat) (kb : Ka), n - i < fu_loop0 → (i ≤ n) → (skp (ka 1007) n i = skp (ka 1007) n x) → (kb = up2 ka 1099 9 (nI i)) → ∀ (ls : Array Slot) (H : Heap) (locs : List Loc), lv_has ls 2 [(0, .ref y0)] → Md G th rh ph kb H locs → W p_ l e_ (RM 2 0 0) s_ m_ ([.ref y0].toArray) below_ meth_ c_ H locs 0 0 (MQ below_ (Qv G th rh ph (fun ka' => ka' = up1 ka 1099 (goF (ka 1007) (ka 1099)))) ([.ref y0].toArray) s_ 0 0 (frG G)) (F0 m_ 0 ls []) := by
    intro fu_loop0
    induction fu_loop0 with
    | zero => intro i kb hfu; exact absurd hfu (Nat.not_lt_zero _)
    | succ fu_loop0 ih_loop0 =>
      intro i kb hfu_loop0 hi hsk ekb ls H locs hl hM
      refine lv_aload_n hx hb dX3_go_0 rfl (lv_at hl 0 rfl) ?_
      refine r_geti B hM 9 hL.1 rfl (by decide) rfl rfl q1391 dX3_go_1 ?_
      refine r_topv (v := nI i) (by rw [ekb, up2_s]) ?_
      refine lv_aload_n hx hb dX3_go_4 rfl (lv_at hl 0 rfl) ?_
      refine r_geti B hM 8 hL.1 rfl (by decide) rfl rfl q1390 dX3_go_5 ?_
      refine r_topv (v := ka 1099 8) (by rw [ekb, up2_i _ _ _ _ (by decide)]) ?_
      refine lv_icmp_ge (tgt := 38) hx hb dX3_go_8 (by decide) (fun c8 => ?_) (fun c8 => ?_)
      · have n8 : n ≤ i := ntLe (by rw [hn]) rfl (by omega) (by omega) c8
        have hA : skp (ka 1007) n x = i := by rw [← hsk]; exact skp_e (fun q => absurd q.1 (by omega))
        refine lv_aload_n hx hb dX3_go_38 rfl (lv_at hl 0 rfl) ?_
        refine lv_aload_n hx hb dX3_go_39 rfl (lv_at hl 0 rfl) ?_
        refine r_geti B hM 9 hL.1 rfl (by decide) rfl rfl q1391 dX3_go_40 ?_
        refine r_topv (v := nI i) (by rw [ekb, up2_s]) ?_
        refine r_puti B hM 10 hL.1 rfl (by decide) rfl rfl q1392 dX3_go_43 (fun ka_1 H locs eka_1 hM => ?_)
        refine lv_aload_n hx hb dX3_go_46 rfl (lv_at hl 0 rfl) ?_
        refine r_geti B hM 10 hL.1 rfl (by decide) rfl rfl q1392 dX3_go_47 ?_
        refine r_topv (v := nI i) (by rw [eka_1, up2_s]) ?_
        refine lv_aload_n hx hb dX3_go_50 rfl (lv_at hl 0 rfl) ?_
        refine r_geti B hM 13 hL.1 rfl (by decide) rfl rfl q1395 dX3_go_51 ?_
        refine r_topv (v := ka 1099 13) (by rw [eka_1, up2_i _ _ _ _ (by decide), ekb, up2_i _ _ _ _ (by decide)]) ?_
        refine lv_icmp_ne (tgt := 61) hx hb dX3_go_54 (by decide) (fun c54 => ?_) (fun c54 => ?_)
        · refine lv_iconst (v := 0) hx hb dX3_go_61 (by decide) ?_
          refine lv_istore_n (lv' := [(1, .int 0), (0, .ref y0)]) hx hb dX3_go_62 rfl hl (by decide) rfl (fun ls hl => ?_)
          refine lv_aload_n hx hb dX3_go_63 rfl (lv_at hl 1 rfl) ?_
          refine r_geti B hM 10 hL.1 rfl (by decide) rfl rfl q1392 dX3_go_64 ?_
          refine r_topv (v := nI i) (by rw [eka_1, up2_s]) ?_
          refine lv_aload_n hx hb dX3_go_67 rfl (lv_at hl 1 rfl) ?_
          refine r_geti B hM 8 hL.1 rfl (by decide) rfl rfl q1390 dX3_go_68 ?_
          refine r_topv (v := ka 1099 8) (by rw [eka_1, up2_i _ _ _ _ (by decide), ekb, up2_i _ _ _ _ (by decide)]) ?_
          refine lv_icmp_ne (tgt := 82) hx hb dX3_go_71 (by decide) (fun c71 => ?_) (fun c71 => ?_)
          · have n71 : i ≠ n := ntNe rfl (by rw [hn]) (by omega) (by omega) c71
            have loop1 : ∀ (fu_loop1 : Nat) (e : Nat) (kc : Ka), n - e < fu_loop1 → (i ≤ e) → (e ≤ n) → (lend (ka 1007) n e = lend (ka 1007) n i) → (ltr (ka 1007) n i) → (kc = up2 ka_1 1099 9 (nI e)) → ∀ (ls : Array Slot) (H : Heap) (locs : List Loc), lv_has ls 2 [(0, .ref y0), (1, .int 0)] → Md G th rh ph kc H locs → W p_ l e_ (RM 2 0 0) s_ m_ ([.ref y0].toArray) below_ meth_ c_ H locs 0 0 (MQ below_ (Qv G th rh ph (fun ka' => ka' = up1 ka 1099 (goF (ka 1007) (ka 1099)))) ([.ref y0].toArray) s_ 0 0 (frG G)) (F0 m_ 93 ls []) := by
              intro fu_loop1
              induction fu_loop1 with
              | zero => intro e kc hfu; exact absurd hfu (Nat.not_lt_zero _)
              | succ fu_loop1 ih_loop1 =>
                intro e kc hfu_loop1 hie hen hle hlt ekc ls H locs hl hM
                refine lv_aload_n hx hb dX3_go_93 rfl (lv_at hl 0 rfl) ?_
                refine lv_aload_n hx hb dX3_go_94 rfl (lv_at hl 0 rfl) ?_
                refine r_geti B hM 9 hL.1 rfl (by decide) rfl rfl q1391 dX3_go_95 ?_
                refine r_topv (v := nI e) (by rw [ekc, up2_s]) ?_
                refine k_pb (r_V (As := [.int (nI e)]) (rest := []) B hM hL.1 rfl rfl (ok_isLetter hL hn96 (n := n) ((show kc 1099 8 = ka 1099 8 from (by rw [ekc, up2_i _ _ _ _ (by decide), eka_1, up2_i _ _ _ _ (by decide), ekb, up2_i _ _ _ _ (by decide)])).trans hn) (k := e) (by omega)) cal_X3_isLetter q1745 rfl hl.1 (Nat.le_of_ble_eq_true rfl) dX3_go_98 ⟨Nat.le_of_ble_eq_true rfl, Nat.le_of_ble_eq_true rfl⟩ ⟨Nat.le_of_ble_eq_true rfl, Nat.le_of_ble_eq_true rfl⟩) hM (fun H locs b98 hM => ?_) (fun H locs b98 hM => ?_)
                · rw [(show kc 1007 = ka 1007 by rw [ekc, up2_a _ _ _ (by decide), eka_1, up2_a _ _ _ (by decide), ekb, up2_a _ _ _ (by decide)])] at b98
                  refine lv_if_eq (tgt := 117) hx hb dX3_go_101 (by decide) (fun cZ => absurd cZ (by decide)) (fun c101 => ?_)
                  refine lv_aload_n hx hb dX3_go_104 rfl (lv_at hl 0 rfl) ?_
                  refine lv_dup hx hb dX3_go_105 rfl ?_
                  refine r_geti B hM 9 hL.1 rfl (by decide) rfl rfl q1391 dX3_go_106 ?_
                  refine r_topv (v := nI e) (by rw [ekc, up2_s]) ?_
                  refine lv_iconst (v := 1) hx hb dX3_go_109 (by decide) ?_
                  refine lv_iadd hx hb dX3_go_110 ?_
                  refine r_puti B hM 9 hL.1 rfl (by decide) rfl rfl q1391 dX3_go_111 (fun ka_2 H locs eka_2 hM => ?_)
                  refine lv_goto (tgt := 93) hx hb dX3_go_114 (by decide) ?_
                  exact ih_loop1 (e + 1) ka_2 (by omega) (by omega) (by omega) ((lend_s b98).trans hle) hlt (by rw [eka_2, ekc, nI_1, up2_up2]) _ _ _ (lv_sub hl [0, 1] rfl) hM
                · rw [(show kc 1007 = ka 1007 by rw [ekc, up2_a _ _ _ (by decide), eka_1, up2_a _ _ _ (by decide), ekb, up2_a _ _ _ (by decide)])] at b98
                  refine lv_if_eq (tgt := 117) hx hb dX3_go_101 (by decide) (fun c101 => ?_) (fun cZ => absurd (by decide) cZ)
                  refine lv_aload_n hx hb dX3_go_117 rfl (lv_at hl 0 rfl) ?_
                  refine lv_iload_n hx hb dX3_go_118 rfl (lv_at hl 1 rfl) ?_
                  refine lv_if_eq (tgt := 126) hx hb dX3_go_119 (by decide) (fun c119 => ?_) (fun cZ => absurd (by decide) cZ)
                  refine lv_iconst (v := 1) hx hb dX3_go_126 (by decide) ?_
                  refine r_puti B hM 11 hL.1 rfl (by decide) rfl rfl q1393 dX3_go_127 (fun ka_3 H locs eka_3 hM => ?_)
                  refine lv_aload_n hx hb dX3_go_130 rfl (lv_at hl 0 rfl) ?_
                  refine lv_aload_n hx hb dX3_go_131 rfl (lv_at hl 0 rfl) ?_
                  refine r_getq B hM 7 hL.1 rfl (by decide) rfl rfl (hL.2 7 _ _ rfl).1 q1389 dX3_go_132 ?_
                  refine lv_aload_n hx hb dX3_go_135 rfl (lv_at hl 0 rfl) ?_
                  refine r_geti B hM 10 hL.1 rfl (by decide) rfl rfl q1392 dX3_go_136 ?_
                  refine r_topv (v := nI i) (by rw [eka_3, up2_i _ _ _ _ (by decide), ekc, up2_i _ _ _ _ (by decide), eka_1, up2_s]) ?_
                  refine r_ild B hM i (hL.2 7 _ _ rfl).2 rfl (by omega) (by decide) dX3_go_139 ?_
                  refine r_topv (v := ka 1007 i) (by rw [eka_3, up2_a _ _ _ (by decide), ekc, up2_a _ _ _ (by decide), eka_1, up2_a _ _ _ (by decide), ekb, up2_a _ _ _ (by decide)]) ?_
                  refine r_puti B hM 12 hL.1 rfl (by decide) rfl rfl q1394 dX3_go_140 (fun ka_4 H locs eka_4 hM => ?_)
                  refine lv_aload_n hx hb dX3_go_143 rfl (lv_at hl 0 rfl) ?_
                  refine lv_aload_n hx hb dX3_go_144 rfl (lv_at hl 0 rfl) ?_
                  refine r_geti B hM 9 hL.1 rfl (by decide) rfl rfl q1391 dX3_go_145 ?_
                  refine r_topv (v := nI e) (by rw [eka_4, up2_i _ _ _ _ (by decide), eka_3, up2_i _ _ _ _ (by decide), ekc, up2_s]) ?_
                  refine r_puti B hM 13 hL.1 rfl (by decide) rfl rfl q1395 dX3_go_148 (fun ka_5 H locs eka_5 hM => ?_)
                  refine lv_goto (tgt := 303) hx hb dX3_go_151 (by decide) ?_
                  refine r_vret B hr hM dX3_go_303 ?_
                  rw [goF_at hn hx9 (by omega) (by omega) hA, goG]
                  have hee : e = lend (ka 1007) n i := by rw [← hle]; exact (lend_e b98).symm
                  rw [if_neg n71, if_pos hlt, ← hee, if_neg c54]
                  rw [eka_5, eka_4, eka_3, ekc, eka_1, ekb]
                  simp only [up2_w1, up2_w2, up1_s, up1_up1, nI_1]
                  all_goals (congr 1; funext k; simp only [rw1, va_up]; grind)
            have loop2 : ∀ (fu_loop2 : Nat) (e : Nat) (v : Int32) (kz : Ka) (kc : Ka), n - e < fu_loop2 → (i ≤ e) → (e ≤ n) → (fgT (ka 1007) n i (n - e) e v = fend (ka 1007) n i) → (¬ ltr (ka 1007) n i) → (fig (ka 1007) n i) → (kz = up2 ka_1 1099 12 v) → (kc = up2 kz 1099 9 (nI e)) → ∀ (ls : Array Slot) (H : Heap) (locs : List Loc), lv_has ls 2 [(0, .ref y0), (1, .int 0)] → Md G th rh ph kc H locs → W p_ l e_ (RM 2 0 0) s_ m_ ([.ref y0].toArray) below_ meth_ c_ H locs 0 0 (MQ below_ (Qv G th rh ph (fun ka' => ka' = up1 ka 1099 (goF (ka 1007) (ka 1099)))) ([.ref y0].toArray) s_ 0 0 (frG G)) (F0 m_ 170 ls []) := by
              intro fu_loop2
              induction fu_loop2 with
              | zero => intro e v kz kc hfu; exact absurd hfu (Nat.not_lt_zero _)
              | succ fu_loop2 ih_loop2 =>
                intro e v kz kc hfu_loop2 hie hen hfe hnl hfg ekz ekc ls H locs hl hM
                refine lv_aload_n hx hb dX3_go_170 rfl (lv_at hl 0 rfl) ?_
                refine lv_aload_n hx hb dX3_go_171 rfl (lv_at hl 0 rfl) ?_
                refine r_geti B hM 9 hL.1 rfl (by decide) rfl rfl q1391 dX3_go_172 ?_
                refine r_topv (v := nI e) (by rw [ekc, up2_s]) ?_
                refine k_pb (r_V (As := [.int (nI e)]) (rest := []) B hM hL.1 rfl rfl (ok_isFigure hL hn96 (n := n) ((show kc 1099 8 = ka 1099 8 from (by rw [ekc, up2_i _ _ _ _ (by decide), ekz, up2_i _ _ _ _ (by decide), eka_1, up2_i _ _ _ _ (by decide), ekb, up2_i _ _ _ _ (by decide)])).trans hn) (k := e) (by omega)) cal_X3_isFigure q1749 rfl hl.1 (Nat.le_of_ble_eq_true rfl) dX3_go_175 ⟨Nat.le_of_ble_eq_true rfl, Nat.le_of_ble_eq_true rfl⟩ ⟨Nat.le_of_ble_eq_true rfl, Nat.le_of_ble_eq_true rfl⟩) hM (fun H locs b175 hM => ?_) (fun H locs b175 hM => ?_)
                · rw [(show kc 1007 = ka 1007 by rw [ekc, up2_a _ _ _ (by decide), ekz, up2_a _ _ _ (by decide), eka_1, up2_a _ _ _ (by decide), ekb, up2_a _ _ _ (by decide)])] at b175
                  refine lv_if_eq (tgt := 238) hx hb dX3_go_178 (by decide) (fun cZ => absurd cZ (by decide)) (fun c178 => ?_)
                  refine lv_aload_n hx hb dX3_go_181 rfl (lv_at hl 0 rfl) ?_
                  refine lv_aload_n hx hb dX3_go_182 rfl (lv_at hl 0 rfl) ?_
                  refine r_geti B hM 9 hL.1 rfl (by decide) rfl rfl q1391 dX3_go_183 ?_
                  refine r_topv (v := nI e) (by rw [ekc, up2_s]) ?_
                  refine lv_aload_n hx hb dX3_go_186 rfl (lv_at hl 0 rfl) ?_
                  refine r_geti B hM 10 hL.1 rfl (by decide) rfl rfl q1392 dX3_go_187 ?_
                  refine r_topv (v := nI i) (by rw [ekc, up2_i _ _ _ _ (by decide), ekz, up2_i _ _ _ _ (by decide), eka_1, up2_s]) ?_
                  refine lv_isub hx hb dX3_go_190 ?_
                  refine r_topv (v := nI (e - i)) (nI_subN (by omega)) ?_
                  refine lv_iconst (v := 4) hx hb dX3_go_191 (by decide) ?_
                  refine lv_icmp_ge (tgt := 218) hx hb dX3_go_192 (by decide) (fun c192 => ?_) (fun c192 => ?_)
                  · have n192 : 4 ≤ e - i := ntLe rfl rfl (by omega) (by omega) c192
                    refine lv_aload_n hx hb dX3_go_218 rfl (lv_at hl 0 rfl) ?_
                    refine r_geti B hM 12 hL.1 rfl (by decide) rfl rfl q1394 dX3_go_219 ?_
                    refine r_topv (v := v) (by rw [ekc, up2_i _ _ _ _ (by decide), ekz, up2_s]) ?_
                    refine r_puti B hM 12 hL.1 rfl (by decide) rfl rfl q1394 dX3_go_222 (fun ka_6 H locs eka_6 hM => ?_)
                    refine lv_aload_n hx hb dX3_go_225 rfl (lv_at hl 0 rfl) ?_
                    refine lv_dup hx hb dX3_go_226 rfl ?_
                    refine r_geti B hM 9 hL.1 rfl (by decide) rfl rfl q1391 dX3_go_227 ?_
                    refine r_topv (v := nI e) (by rw [eka_6, up2_i _ _ _ _ (by decide), ekc, up2_s]) ?_
                    refine lv_iconst (v := 1) hx hb dX3_go_230 (by decide) ?_
                    refine lv_iadd hx hb dX3_go_231 ?_
                    refine r_puti B hM 9 hL.1 rfl (by decide) rfl rfl q1391 dX3_go_232 (fun ka_7 H locs eka_7 hM => ?_)
                    refine lv_goto (tgt := 170) hx hb dX3_go_235 (by decide) ?_
                    exact ih_loop2 (e + 1) v (up2 ka_1 1099 12 v) ka_7 (by omega) (by omega) (by omega) (by rw [← hfe, ← fgT_s b175, if_neg (by omega)]) hnl hfg rfl (by rw [eka_7, eka_6, ekc, ekz, nI_1]; exact fg_kb) _ _ _ (lv_sub hl [0, 1] rfl) hM
                  · have n192 : e - i < 4 := ntNle rfl rfl (by omega) (by omega) c192
                    refine lv_bipush (v := 10) hx hb dX3_go_195 (by decide) ?_
                    refine lv_aload_n hx hb dX3_go_197 rfl (lv_at hl 0 rfl) ?_
                    refine r_geti B hM 12 hL.1 rfl (by decide) rfl rfl q1394 dX3_go_198 ?_
                    refine r_topv (v := v) (by rw [ekc, up2_i _ _ _ _ (by decide), ekz, up2_s]) ?_
                    refine lv_imul hx hb dX3_go_201 ?_
                    refine lv_aload_n hx hb dX3_go_202 rfl (lv_at hl 0 rfl) ?_
                    refine r_getq B hM 7 hL.1 rfl (by decide) rfl rfl (hL.2 7 _ _ rfl).1 q1389 dX3_go_203 ?_
                    refine lv_aload_n hx hb dX3_go_206 rfl (lv_at hl 0 rfl) ?_
                    refine r_geti B hM 9 hL.1 rfl (by decide) rfl rfl q1391 dX3_go_207 ?_
                    refine r_topv (v := nI e) (by rw [ekc, up2_s]) ?_
                    refine r_ild B hM e (hL.2 7 _ _ rfl).2 rfl (by omega) (by decide) dX3_go_210 ?_
                    refine r_topv (v := ka 1007 e) (by rw [ekc, up2_a _ _ _ (by decide), ekz, up2_a _ _ _ (by decide), eka_1, up2_a _ _ _ (by decide), ekb, up2_a _ _ _ (by decide)]) ?_
                    refine lv_iadd hx hb dX3_go_211 ?_
                    refine lv_bipush (v := 48) hx hb dX3_go_212 (by decide) ?_
                    refine lv_isub hx hb dX3_go_214 ?_
                    refine lv_goto (tgt := 222) hx hb dX3_go_215 (by decide) ?_
                    refine r_puti B hM 12 hL.1 rfl (by decide) rfl rfl q1394 dX3_go_222 (fun ka_8 H locs eka_8 hM => ?_)
                    refine lv_aload_n hx hb dX3_go_225 rfl (lv_at hl 0 rfl) ?_
                    refine lv_dup hx hb dX3_go_226 rfl ?_
                    refine r_geti B hM 9 hL.1 rfl (by decide) rfl rfl q1391 dX3_go_227 ?_
                    refine r_topv (v := nI e) (by rw [eka_8, up2_i _ _ _ _ (by decide), ekc, up2_s]) ?_
                    refine lv_iconst (v := 1) hx hb dX3_go_230 (by decide) ?_
                    refine lv_iadd hx hb dX3_go_231 ?_
                    refine r_puti B hM 9 hL.1 rfl (by decide) rfl rfl q1391 dX3_go_232 (fun ka_9 H locs eka_9 hM => ?_)
                    refine lv_goto (tgt := 170) hx hb dX3_go_235 (by decide) ?_
                    exact ih_loop2 (e + 1) ((((10 : Int32) * v) + (ka 1007 e)) - 48) (up2 ka_1 1099 12 ((((10 : Int32) * v) + (ka 1007 e)) - 48)) ka_9 (by omega) (by omega) (by omega) (by rw [← hfe, ← fgT_s b175, if_pos (by omega)]) hnl hfg rfl (by rw [eka_9, eka_8, ekc, ekz, nI_1]; exact fg_kb) _ _ _ (lv_sub hl [0, 1] rfl) hM
                · rw [(show kc 1007 = ka 1007 by rw [ekc, up2_a _ _ _ (by decide), ekz, up2_a _ _ _ (by decide), eka_1, up2_a _ _ _ (by decide), ekb, up2_a _ _ _ (by decide)])] at b175
                  refine lv_if_eq (tgt := 238) hx hb dX3_go_178 (by decide) (fun c178 => ?_) (fun cZ => absurd (by decide) cZ)
                  refine lv_aload_n hx hb dX3_go_238 rfl (lv_at hl 0 rfl) ?_
                  refine lv_iload_n hx hb dX3_go_239 rfl (lv_at hl 1 rfl) ?_
                  refine lv_if_ne (tgt := 256) hx hb dX3_go_240 (by decide) (fun cZ => absurd (by decide) cZ) (fun c240 => ?_)
                  refine lv_aload_n hx hb dX3_go_243 rfl (lv_at hl 0 rfl) ?_
                  refine r_geti B hM 9 hL.1 rfl (by decide) rfl rfl q1391 dX3_go_244 ?_
                  refine r_topv (v := nI e) (by rw [ekc, up2_s]) ?_
                  refine lv_aload_n hx hb dX3_go_247 rfl (lv_at hl 0 rfl) ?_
                  refine r_geti B hM 10 hL.1 rfl (by decide) rfl rfl q1392 dX3_go_248 ?_
                  refine r_topv (v := nI i) (by rw [ekc, up2_i _ _ _ _ (by decide), ekz, up2_i _ _ _ _ (by decide), eka_1, up2_s]) ?_
                  refine lv_isub hx hb dX3_go_251 ?_
                  refine r_topv (v := nI (e - i)) (nI_subN (by omega)) ?_
                  refine lv_iconst (v := 4) hx hb dX3_go_252 (by decide) ?_
                  refine lv_icmp_le (tgt := 260) hx hb dX3_go_253 (by decide) (fun c253 => ?_) (fun c253 => ?_)
                  · have n253 : e - i ≤ 4 := ntLe rfl rfl (by omega) (by omega) c253
                    refine lv_iconst (v := 2) hx hb dX3_go_260 (by decide) ?_
                    refine r_puti B hM 11 hL.1 rfl (by decide) rfl rfl q1393 dX3_go_261 (fun ka_10 H locs eka_10 hM => ?_)
                    refine lv_aload_n hx hb dX3_go_264 rfl (lv_at hl 0 rfl) ?_
                    refine lv_aload_n hx hb dX3_go_265 rfl (lv_at hl 0 rfl) ?_
                    refine r_geti B hM 9 hL.1 rfl (by decide) rfl rfl q1391 dX3_go_266 ?_
                    refine r_topv (v := nI e) (by rw [eka_10, up2_i _ _ _ _ (by decide), ekc, up2_s]) ?_
                    refine r_puti B hM 13 hL.1 rfl (by decide) rfl rfl q1395 dX3_go_269 (fun ka_11 H locs eka_11 hM => ?_)
                    refine lv_goto (tgt := 303) hx hb dX3_go_272 (by decide) ?_
                    refine r_vret B hr hM dX3_go_303 ?_
                    rw [goF_at hn hx9 (by omega) (by omega) hA, goG]
                    have hee : fend (ka 1007) n i = (e, v) := by rw [← hfe]; exact fgT_e b175
                    rw [if_neg n71, if_neg hnl, if_pos hfg, hee]; dsimp only
                    rw [if_neg (fun q => q.elim c54 (by omega))]
                    rw [eka_11, eka_10, ekc, ekz, eka_1, ekb]
                    simp only [up2_w1, up2_w2, up1_s, up1_up1, nI_1]
                    all_goals (congr 1; funext k; simp only [rw1, va_up]; grind)
                  · have n253 : 4 < e - i := ntNle rfl rfl (by omega) (by omega) c253
                    refine lv_iconst (v := 4) hx hb dX3_go_256 (by decide) ?_
                    refine lv_goto (tgt := 261) hx hb dX3_go_257 (by decide) ?_
                    refine r_puti B hM 11 hL.1 rfl (by decide) rfl rfl q1393 dX3_go_261 (fun ka_12 H locs eka_12 hM => ?_)
                    refine lv_aload_n hx hb dX3_go_264 rfl (lv_at hl 0 rfl) ?_
                    refine lv_aload_n hx hb dX3_go_265 rfl (lv_at hl 0 rfl) ?_
                    refine r_geti B hM 9 hL.1 rfl (by decide) rfl rfl q1391 dX3_go_266 ?_
                    refine r_topv (v := nI e) (by rw [eka_12, up2_i _ _ _ _ (by decide), ekc, up2_s]) ?_
                    refine r_puti B hM 13 hL.1 rfl (by decide) rfl rfl q1395 dX3_go_269 (fun ka_13 H locs eka_13 hM => ?_)
                    refine lv_goto (tgt := 303) hx hb dX3_go_272 (by decide) ?_
                    refine r_vret B hr hM dX3_go_303 ?_
                    rw [goF_at hn hx9 (by omega) (by omega) hA, goG]
                    have hee : fend (ka 1007) n i = (e, v) := by rw [← hfe]; exact fgT_e b175
                    rw [if_neg n71, if_neg hnl, if_pos hfg, hee]; dsimp only
                    rw [if_pos (Or.inr (by omega))]
                    rw [eka_13, eka_12, ekc, ekz, eka_1, ekb]
                    simp only [up2_w1, up2_w2, up1_s, up1_up1, nI_1]
                    all_goals (congr 1; funext k; simp only [rw1, va_up]; grind)
            refine lv_aload_n hx hb dX3_go_82 rfl (lv_at hl 1 rfl) ?_
            refine lv_aload_n hx hb dX3_go_83 rfl (lv_at hl 1 rfl) ?_
            refine r_geti B hM 10 hL.1 rfl (by decide) rfl rfl q1392 dX3_go_84 ?_
            refine r_topv (v := nI i) (by rw [eka_1, up2_s]) ?_
            refine k_pb (r_V (As := [.int (nI i)]) (rest := []) B hM hL.1 rfl rfl (ok_isLetter hL hn96 (n := n) ((show ka_1 1099 8 = ka 1099 8 from (by rw [eka_1, up2_i _ _ _ _ (by decide), ekb, up2_i _ _ _ _ (by decide)])).trans hn) (k := i) (by omega)) cal_X3_isLetter q1745 rfl hl.1 (Nat.le_of_ble_eq_true rfl) dX3_go_87 ⟨Nat.le_of_ble_eq_true rfl, Nat.le_of_ble_eq_true rfl⟩ ⟨Nat.le_of_ble_eq_true rfl, Nat.le_of_ble_eq_true rfl⟩) hM (fun H locs b87 hM => ?_) (fun H locs b87 hM => ?_)
            · rw [(show ka_1 1007 = ka 1007 by rw [eka_1, up2_a _ _ _ (by decide), ekb, up2_a _ _ _ (by decide)])] at b87
              refine lv_if_eq (tgt := 154) hx hb dX3_go_90 (by decide) (fun cZ => absurd cZ (by decide)) (fun c90 => ?_)
              exact loop1 (n + 1) i ka_1 (by omega) (Nat.le_refl _) hi rfl b87 (up2_self (by rw [eka_1, up2_i _ _ _ _ (by decide), ekb, up2_s])) _ _ _ (lv_sub hl [1, 0] rfl) hM
            · rw [(show ka_1 1007 = ka 1007 by rw [eka_1, up2_a _ _ _ (by decide), ekb, up2_a _ _ _ (by decide)])] at b87
              refine lv_if_eq (tgt := 154) hx hb dX3_go_90 (by decide) (fun c90 => ?_) (fun cZ => absurd (by decide) cZ)
              refine lv_aload_n hx hb dX3_go_154 rfl (lv_at hl 1 rfl) ?_
              refine lv_aload_n hx hb dX3_go_155 rfl (lv_at hl 1 rfl) ?_
              refine r_geti B hM 10 hL.1 rfl (by decide) rfl rfl q1392 dX3_go_156 ?_
              refine r_topv (v := nI i) (by rw [eka_1, up2_s]) ?_
              refine k_pb (r_V (As := [.int (nI i)]) (rest := []) B hM hL.1 rfl rfl (ok_isFigure hL hn96 (n := n) ((show ka_1 1099 8 = ka 1099 8 from (by rw [eka_1, up2_i _ _ _ _ (by decide), ekb, up2_i _ _ _ _ (by decide)])).trans hn) (k := i) (by omega)) cal_X3_isFigure q1749 rfl hl.1 (Nat.le_of_ble_eq_true rfl) dX3_go_159 ⟨Nat.le_of_ble_eq_true rfl, Nat.le_of_ble_eq_true rfl⟩ ⟨Nat.le_of_ble_eq_true rfl, Nat.le_of_ble_eq_true rfl⟩) hM (fun H locs b159 hM => ?_) (fun H locs b159 hM => ?_)
              · rw [(show ka_1 1007 = ka 1007 by rw [eka_1, up2_a _ _ _ (by decide), ekb, up2_a _ _ _ (by decide)])] at b159
                refine lv_if_eq (tgt := 275) hx hb dX3_go_162 (by decide) (fun cZ => absurd cZ (by decide)) (fun c162 => ?_)
                refine lv_aload_n hx hb dX3_go_165 rfl (lv_at hl 1 rfl) ?_
                refine lv_iconst (v := 0) hx hb dX3_go_166 (by decide) ?_
                refine r_puti B hM 12 hL.1 rfl (by decide) rfl rfl q1394 dX3_go_167 (fun ka_14 H locs eka_14 hM => ?_)
                exact loop2 (n + 1) i 0 ka_14 ka_14 (by omega) (Nat.le_refl _) hi rfl b87 b159 eka_14 (up2_self (by rw [eka_14, up2_i _ _ _ _ (by decide), eka_1, up2_i _ _ _ _ (by decide), ekb, up2_s])) _ _ _ (lv_sub hl [1, 0] rfl) hM
              · rw [(show ka_1 1007 = ka 1007 by rw [eka_1, up2_a _ _ _ (by decide), ekb, up2_a _ _ _ (by decide)])] at b159
                refine lv_if_eq (tgt := 275) hx hb dX3_go_162 (by decide) (fun c162 => ?_) (fun cZ => absurd (by decide) cZ)
                refine lv_aload_n hx hb dX3_go_275 rfl (lv_at hl 1 rfl) ?_
                refine lv_iconst (v := 3) hx hb dX3_go_276 (by decide) ?_
                refine r_puti B hM 11 hL.1 rfl (by decide) rfl rfl q1393 dX3_go_277 (fun ka_15 H locs eka_15 hM => ?_)
                refine lv_aload_n hx hb dX3_go_280 rfl (lv_at hl 1 rfl) ?_
                refine lv_aload_n hx hb dX3_go_281 rfl (lv_at hl 1 rfl) ?_
                refine r_getq B hM 7 hL.1 rfl (by decide) rfl rfl (hL.2 7 _ _ rfl).1 q1389 dX3_go_282 ?_
                refine lv_aload_n hx hb dX3_go_285 rfl (lv_at hl 1 rfl) ?_
                refine r_geti B hM 10 hL.1 rfl (by decide) rfl rfl q1392 dX3_go_286 ?_
                refine r_topv (v := nI i) (by rw [eka_15, up2_i _ _ _ _ (by decide), eka_1, up2_s]) ?_
                refine r_ild B hM i (hL.2 7 _ _ rfl).2 rfl (by omega) (by decide) dX3_go_289 ?_
                refine r_topv (v := ka 1007 i) (by rw [eka_15, up2_a _ _ _ (by decide), eka_1, up2_a _ _ _ (by decide), ekb, up2_a _ _ _ (by decide)]) ?_
                refine r_puti B hM 12 hL.1 rfl (by decide) rfl rfl q1394 dX3_go_290 (fun ka_16 H locs eka_16 hM => ?_)
                refine lv_aload_n hx hb dX3_go_293 rfl (lv_at hl 1 rfl) ?_
                refine lv_dup hx hb dX3_go_294 rfl ?_
                refine r_geti B hM 9 hL.1 rfl (by decide) rfl rfl q1391 dX3_go_295 ?_
                refine r_topv (v := nI i) (by rw [eka_16, up2_i _ _ _ _ (by decide), eka_15, up2_i _ _ _ _ (by decide), eka_1, up2_i _ _ _ _ (by decide), ekb, up2_s]) ?_
                refine lv_iconst (v := 1) hx hb dX3_go_298 (by decide) ?_
                refine lv_iadd hx hb dX3_go_299 ?_
                refine r_puti B hM 9 hL.1 rfl (by decide) rfl rfl q1391 dX3_go_300 (fun ka_17 H locs eka_17 hM => ?_)
                refine r_vret B hr hM dX3_go_303 ?_
                rw [goF_at hn hx9 (by omega) (by omega) hA, goG]
                rw [if_neg n71, if_neg b87, if_neg b159]
                rw [eka_17, eka_16, eka_15, eka_1, ekb]
                simp only [up2_w1, up2_w2, up1_s, up1_up1, nI_1]
                all_goals (congr 1; funext k; simp only [rw1, va_up]; grind)
          · have n71 : i = n := ntEq rfl (by rw [hn]) (by omega) (by omega) c71
            refine lv_aload_n hx hb dX3_go_74 rfl (lv_at hl 1 rfl) ?_
            refine lv_iconst (v := 0) hx hb dX3_go_75 (by decide) ?_
            refine r_puti B hM 11 hL.1 rfl (by decide) rfl rfl q1393 dX3_go_76 (fun ka_18 H locs eka_18 hM => ?_)
            refine lv_goto (tgt := 303) hx hb dX3_go_79 (by decide) ?_
            refine r_vret B hr hM dX3_go_303 ?_
            rw [goF_at hn hx9 (by omega) (by omega) hA, goG]
            rw [if_pos n71]
            rw [eka_18, eka_1, ekb]
            simp only [up2_w1, up2_w2, up1_s, up1_up1, nI_1]
            all_goals (congr 1; funext k; simp only [rw1, va_up]; grind)
        · refine lv_iconst (v := 1) hx hb dX3_go_57 (by decide) ?_
          refine lv_goto (tgt := 62) hx hb dX3_go_58 (by decide) ?_
          refine lv_istore_n (lv' := [(1, .int 1), (0, .ref y0)]) hx hb dX3_go_62 rfl hl (by decide) rfl (fun ls hl => ?_)
          refine lv_aload_n hx hb dX3_go_63 rfl (lv_at hl 1 rfl) ?_
          refine r_geti B hM 10 hL.1 rfl (by decide) rfl rfl q1392 dX3_go_64 ?_
          refine r_topv (v := nI i) (by rw [eka_1, up2_s]) ?_
          refine lv_aload_n hx hb dX3_go_67 rfl (lv_at hl 1 rfl) ?_
          refine r_geti B hM 8 hL.1 rfl (by decide) rfl rfl q1390 dX3_go_68 ?_
          refine r_topv (v := ka 1099 8) (by rw [eka_1, up2_i _ _ _ _ (by decide), ekb, up2_i _ _ _ _ (by decide)]) ?_
          refine lv_icmp_ne (tgt := 82) hx hb dX3_go_71 (by decide) (fun c71 => ?_) (fun c71 => ?_)
          · have n71 : i ≠ n := ntNe rfl (by rw [hn]) (by omega) (by omega) c71
            have loop1 : ∀ (fu_loop1 : Nat) (e : Nat) (kc : Ka), n - e < fu_loop1 → (i ≤ e) → (e ≤ n) → (lend (ka 1007) n e = lend (ka 1007) n i) → (ltr (ka 1007) n i) → (kc = up2 ka_1 1099 9 (nI e)) → ∀ (ls : Array Slot) (H : Heap) (locs : List Loc), lv_has ls 2 [(0, .ref y0), (1, .int 1)] → Md G th rh ph kc H locs → W p_ l e_ (RM 2 0 0) s_ m_ ([.ref y0].toArray) below_ meth_ c_ H locs 0 0 (MQ below_ (Qv G th rh ph (fun ka' => ka' = up1 ka 1099 (goF (ka 1007) (ka 1099)))) ([.ref y0].toArray) s_ 0 0 (frG G)) (F0 m_ 93 ls []) := by
              intro fu_loop1
              induction fu_loop1 with
              | zero => intro e kc hfu; exact absurd hfu (Nat.not_lt_zero _)
              | succ fu_loop1 ih_loop1 =>
                intro e kc hfu_loop1 hie hen hle hlt ekc ls H locs hl hM
                refine lv_aload_n hx hb dX3_go_93 rfl (lv_at hl 0 rfl) ?_
                refine lv_aload_n hx hb dX3_go_94 rfl (lv_at hl 0 rfl) ?_
                refine r_geti B hM 9 hL.1 rfl (by decide) rfl rfl q1391 dX3_go_95 ?_
                refine r_topv (v := nI e) (by rw [ekc, up2_s]) ?_
                refine k_pb (r_V (As := [.int (nI e)]) (rest := []) B hM hL.1 rfl rfl (ok_isLetter hL hn96 (n := n) ((show kc 1099 8 = ka 1099 8 from (by rw [ekc, up2_i _ _ _ _ (by decide), eka_1, up2_i _ _ _ _ (by decide), ekb, up2_i _ _ _ _ (by decide)])).trans hn) (k := e) (by omega)) cal_X3_isLetter q1745 rfl hl.1 (Nat.le_of_ble_eq_true rfl) dX3_go_98 ⟨Nat.le_of_ble_eq_true rfl, Nat.le_of_ble_eq_true rfl⟩ ⟨Nat.le_of_ble_eq_true rfl, Nat.le_of_ble_eq_true rfl⟩) hM (fun H locs b98 hM => ?_) (fun H locs b98 hM => ?_)
                · rw [(show kc 1007 = ka 1007 by rw [ekc, up2_a _ _ _ (by decide), eka_1, up2_a _ _ _ (by decide), ekb, up2_a _ _ _ (by decide)])] at b98
                  refine lv_if_eq (tgt := 117) hx hb dX3_go_101 (by decide) (fun cZ => absurd cZ (by decide)) (fun c101 => ?_)
                  refine lv_aload_n hx hb dX3_go_104 rfl (lv_at hl 0 rfl) ?_
                  refine lv_dup hx hb dX3_go_105 rfl ?_
                  refine r_geti B hM 9 hL.1 rfl (by decide) rfl rfl q1391 dX3_go_106 ?_
                  refine r_topv (v := nI e) (by rw [ekc, up2_s]) ?_
                  refine lv_iconst (v := 1) hx hb dX3_go_109 (by decide) ?_
                  refine lv_iadd hx hb dX3_go_110 ?_
                  refine r_puti B hM 9 hL.1 rfl (by decide) rfl rfl q1391 dX3_go_111 (fun ka_19 H locs eka_19 hM => ?_)
                  refine lv_goto (tgt := 93) hx hb dX3_go_114 (by decide) ?_
                  exact ih_loop1 (e + 1) ka_19 (by omega) (by omega) (by omega) ((lend_s b98).trans hle) hlt (by rw [eka_19, ekc, nI_1, up2_up2]) _ _ _ (lv_sub hl [0, 1] rfl) hM
                · rw [(show kc 1007 = ka 1007 by rw [ekc, up2_a _ _ _ (by decide), eka_1, up2_a _ _ _ (by decide), ekb, up2_a _ _ _ (by decide)])] at b98
                  refine lv_if_eq (tgt := 117) hx hb dX3_go_101 (by decide) (fun c101 => ?_) (fun cZ => absurd (by decide) cZ)
                  refine lv_aload_n hx hb dX3_go_117 rfl (lv_at hl 0 rfl) ?_
                  refine lv_iload_n hx hb dX3_go_118 rfl (lv_at hl 1 rfl) ?_
                  refine lv_if_eq (tgt := 126) hx hb dX3_go_119 (by decide) (fun cZ => absurd cZ (by decide)) (fun c119 => ?_)
                  refine lv_iconst (v := 4) hx hb dX3_go_122 (by decide) ?_
                  refine lv_goto (tgt := 127) hx hb dX3_go_123 (by decide) ?_
                  refine r_puti B hM 11 hL.1 rfl (by decide) rfl rfl q1393 dX3_go_127 (fun ka_20 H locs eka_20 hM => ?_)
                  refine lv_aload_n hx hb dX3_go_130 rfl (lv_at hl 0 rfl) ?_
                  refine lv_aload_n hx hb dX3_go_131 rfl (lv_at hl 0 rfl) ?_
                  refine r_getq B hM 7 hL.1 rfl (by decide) rfl rfl (hL.2 7 _ _ rfl).1 q1389 dX3_go_132 ?_
                  refine lv_aload_n hx hb dX3_go_135 rfl (lv_at hl 0 rfl) ?_
                  refine r_geti B hM 10 hL.1 rfl (by decide) rfl rfl q1392 dX3_go_136 ?_
                  refine r_topv (v := nI i) (by rw [eka_20, up2_i _ _ _ _ (by decide), ekc, up2_i _ _ _ _ (by decide), eka_1, up2_s]) ?_
                  refine r_ild B hM i (hL.2 7 _ _ rfl).2 rfl (by omega) (by decide) dX3_go_139 ?_
                  refine r_topv (v := ka 1007 i) (by rw [eka_20, up2_a _ _ _ (by decide), ekc, up2_a _ _ _ (by decide), eka_1, up2_a _ _ _ (by decide), ekb, up2_a _ _ _ (by decide)]) ?_
                  refine r_puti B hM 12 hL.1 rfl (by decide) rfl rfl q1394 dX3_go_140 (fun ka_21 H locs eka_21 hM => ?_)
                  refine lv_aload_n hx hb dX3_go_143 rfl (lv_at hl 0 rfl) ?_
                  refine lv_aload_n hx hb dX3_go_144 rfl (lv_at hl 0 rfl) ?_
                  refine r_geti B hM 9 hL.1 rfl (by decide) rfl rfl q1391 dX3_go_145 ?_
                  refine r_topv (v := nI e) (by rw [eka_21, up2_i _ _ _ _ (by decide), eka_20, up2_i _ _ _ _ (by decide), ekc, up2_s]) ?_
                  refine r_puti B hM 13 hL.1 rfl (by decide) rfl rfl q1395 dX3_go_148 (fun ka_22 H locs eka_22 hM => ?_)
                  refine lv_goto (tgt := 303) hx hb dX3_go_151 (by decide) ?_
                  refine r_vret B hr hM dX3_go_303 ?_
                  rw [goF_at hn hx9 (by omega) (by omega) hA, goG]
                  have hee : e = lend (ka 1007) n i := by rw [← hle]; exact (lend_e b98).symm
                  rw [if_neg n71, if_pos hlt, ← hee, if_pos c54]
                  rw [eka_22, eka_21, eka_20, ekc, eka_1, ekb]
                  simp only [up2_w1, up2_w2, up1_s, up1_up1, nI_1]
                  all_goals (congr 1; funext k; simp only [rw1, va_up]; grind)
            have loop2 : ∀ (fu_loop2 : Nat) (e : Nat) (v : Int32) (kz : Ka) (kc : Ka), n - e < fu_loop2 → (i ≤ e) → (e ≤ n) → (fgT (ka 1007) n i (n - e) e v = fend (ka 1007) n i) → (¬ ltr (ka 1007) n i) → (fig (ka 1007) n i) → (kz = up2 ka_1 1099 12 v) → (kc = up2 kz 1099 9 (nI e)) → ∀ (ls : Array Slot) (H : Heap) (locs : List Loc), lv_has ls 2 [(0, .ref y0), (1, .int 1)] → Md G th rh ph kc H locs → W p_ l e_ (RM 2 0 0) s_ m_ ([.ref y0].toArray) below_ meth_ c_ H locs 0 0 (MQ below_ (Qv G th rh ph (fun ka' => ka' = up1 ka 1099 (goF (ka 1007) (ka 1099)))) ([.ref y0].toArray) s_ 0 0 (frG G)) (F0 m_ 170 ls []) := by
              intro fu_loop2
              induction fu_loop2 with
              | zero => intro e v kz kc hfu; exact absurd hfu (Nat.not_lt_zero _)
              | succ fu_loop2 ih_loop2 =>
                intro e v kz kc hfu_loop2 hie hen hfe hnl hfg ekz ekc ls H locs hl hM
                refine lv_aload_n hx hb dX3_go_170 rfl (lv_at hl 0 rfl) ?_
                refine lv_aload_n hx hb dX3_go_171 rfl (lv_at hl 0 rfl) ?_
                refine r_geti B hM 9 hL.1 rfl (by decide) rfl rfl q1391 dX3_go_172 ?_
                refine r_topv (v := nI e) (by rw [ekc, up2_s]) ?_
                refine k_pb (r_V (As := [.int (nI e)]) (rest := []) B hM hL.1 rfl rfl (ok_isFigure hL hn96 (n := n) ((show kc 1099 8 = ka 1099 8 from (by rw [ekc, up2_i _ _ _ _ (by decide), ekz, up2_i _ _ _ _ (by decide), eka_1, up2_i _ _ _ _ (by decide), ekb, up2_i _ _ _ _ (by decide)])).trans hn) (k := e) (by omega)) cal_X3_isFigure q1749 rfl hl.1 (Nat.le_of_ble_eq_true rfl) dX3_go_175 ⟨Nat.le_of_ble_eq_true rfl, Nat.le_of_ble_eq_true rfl⟩ ⟨Nat.le_of_ble_eq_true rfl, Nat.le_of_ble_eq_true rfl⟩) hM (fun H locs b175 hM => ?_) (fun H locs b175 hM => ?_)
                · rw [(show kc 1007 = ka 1007 by rw [ekc, up2_a _ _ _ (by decide), ekz, up2_a _ _ _ (by decide), eka_1, up2_a _ _ _ (by decide), ekb, up2_a _ _ _ (by decide)])] at b175
                  refine lv_if_eq (tgt := 238) hx hb dX3_go_178 (by decide) (fun cZ => absurd cZ (by decide)) (fun c178 => ?_)
                  refine lv_aload_n hx hb dX3_go_181 rfl (lv_at hl 0 rfl) ?_
                  refine lv_aload_n hx hb dX3_go_182 rfl (lv_at hl 0 rfl) ?_
                  refine r_geti B hM 9 hL.1 rfl (by decide) rfl rfl q1391 dX3_go_183 ?_
                  refine r_topv (v := nI e) (by rw [ekc, up2_s]) ?_
                  refine lv_aload_n hx hb dX3_go_186 rfl (lv_at hl 0 rfl) ?_
                  refine r_geti B hM 10 hL.1 rfl (by decide) rfl rfl q1392 dX3_go_187 ?_
                  refine r_topv (v := nI i) (by rw [ekc, up2_i _ _ _ _ (by decide), ekz, up2_i _ _ _ _ (by decide), eka_1, up2_s]) ?_
                  refine lv_isub hx hb dX3_go_190 ?_
                  refine r_topv (v := nI (e - i)) (nI_subN (by omega)) ?_
                  refine lv_iconst (v := 4) hx hb dX3_go_191 (by decide) ?_
                  refine lv_icmp_ge (tgt := 218) hx hb dX3_go_192 (by decide) (fun c192 => ?_) (fun c192 => ?_)
                  · have n192 : 4 ≤ e - i := ntLe rfl rfl (by omega) (by omega) c192
                    refine lv_aload_n hx hb dX3_go_218 rfl (lv_at hl 0 rfl) ?_
                    refine r_geti B hM 12 hL.1 rfl (by decide) rfl rfl q1394 dX3_go_219 ?_
                    refine r_topv (v := v) (by rw [ekc, up2_i _ _ _ _ (by decide), ekz, up2_s]) ?_
                    refine r_puti B hM 12 hL.1 rfl (by decide) rfl rfl q1394 dX3_go_222 (fun ka_23 H locs eka_23 hM => ?_)
                    refine lv_aload_n hx hb dX3_go_225 rfl (lv_at hl 0 rfl) ?_
                    refine lv_dup hx hb dX3_go_226 rfl ?_
                    refine r_geti B hM 9 hL.1 rfl (by decide) rfl rfl q1391 dX3_go_227 ?_
                    refine r_topv (v := nI e) (by rw [eka_23, up2_i _ _ _ _ (by decide), ekc, up2_s]) ?_
                    refine lv_iconst (v := 1) hx hb dX3_go_230 (by decide) ?_
                    refine lv_iadd hx hb dX3_go_231 ?_
                    refine r_puti B hM 9 hL.1 rfl (by decide) rfl rfl q1391 dX3_go_232 (fun ka_24 H locs eka_24 hM => ?_)
                    refine lv_goto (tgt := 170) hx hb dX3_go_235 (by decide) ?_
                    exact ih_loop2 (e + 1) v (up2 ka_1 1099 12 v) ka_24 (by omega) (by omega) (by omega) (by rw [← hfe, ← fgT_s b175, if_neg (by omega)]) hnl hfg rfl (by rw [eka_24, eka_23, ekc, ekz, nI_1]; exact fg_kb) _ _ _ (lv_sub hl [0, 1] rfl) hM
                  · have n192 : e - i < 4 := ntNle rfl rfl (by omega) (by omega) c192
                    refine lv_bipush (v := 10) hx hb dX3_go_195 (by decide) ?_
                    refine lv_aload_n hx hb dX3_go_197 rfl (lv_at hl 0 rfl) ?_
                    refine r_geti B hM 12 hL.1 rfl (by decide) rfl rfl q1394 dX3_go_198 ?_
                    refine r_topv (v := v) (by rw [ekc, up2_i _ _ _ _ (by decide), ekz, up2_s]) ?_
                    refine lv_imul hx hb dX3_go_201 ?_
                    refine lv_aload_n hx hb dX3_go_202 rfl (lv_at hl 0 rfl) ?_
                    refine r_getq B hM 7 hL.1 rfl (by decide) rfl rfl (hL.2 7 _ _ rfl).1 q1389 dX3_go_203 ?_
                    refine lv_aload_n hx hb dX3_go_206 rfl (lv_at hl 0 rfl) ?_
                    refine r_geti B hM 9 hL.1 rfl (by decide) rfl rfl q1391 dX3_go_207 ?_
                    refine r_topv (v := nI e) (by rw [ekc, up2_s]) ?_
                    refine r_ild B hM e (hL.2 7 _ _ rfl).2 rfl (by omega) (by decide) dX3_go_210 ?_
                    refine r_topv (v := ka 1007 e) (by rw [ekc, up2_a _ _ _ (by decide), ekz, up2_a _ _ _ (by decide), eka_1, up2_a _ _ _ (by decide), ekb, up2_a _ _ _ (by decide)]) ?_
                    refine lv_iadd hx hb dX3_go_211 ?_
                    refine lv_bipush (v := 48) hx hb dX3_go_212 (by decide) ?_
                    refine lv_isub hx hb dX3_go_214 ?_
                    refine lv_goto (tgt := 222) hx hb dX3_go_215 (by decide) ?_
                    refine r_puti B hM 12 hL.1 rfl (by decide) rfl rfl q1394 dX3_go_222 (fun ka_25 H locs eka_25 hM => ?_)
                    refine lv_aload_n hx hb dX3_go_225 rfl (lv_at hl 0 rfl) ?_
                    refine lv_dup hx hb dX3_go_226 rfl ?_
                    refine r_geti B hM 9 hL.1 rfl (by decide) rfl rfl q1391 dX3_go_227 ?_
                    refine r_topv (v := nI e) (by rw [eka_25, up2_i _ _ _ _ (by decide), ekc, up2_s]) ?_
                    refine lv_iconst (v := 1) hx hb dX3_go_230 (by decide) ?_
                    refine lv_iadd hx hb dX3_go_231 ?_
                    refine r_puti B hM 9 hL.1 rfl (by decide) rfl rfl q1391 dX3_go_232 (fun ka_26 H locs eka_26 hM => ?_)
                    refine lv_goto (tgt := 170) hx hb dX3_go_235 (by decide) ?_
                    exact ih_loop2 (e + 1) ((((10 : Int32) * v) + (ka 1007 e)) - 48) (up2 ka_1 1099 12 ((((10 : Int32) * v) + (ka 1007 e)) - 48)) ka_26 (by omega) (by omega) (by omega) (by rw [← hfe, ← fgT_s b175, if_pos (by omega)]) hnl hfg rfl (by rw [eka_26, eka_25, ekc, ekz, nI_1]; exact fg_kb) _ _ _ (lv_sub hl [0, 1] rfl) hM
                · rw [(show kc 1007 = ka 1007 by rw [ekc, up2_a _ _ _ (by decide), ekz, up2_a _ _ _ (by decide), eka_1, up2_a _ _ _ (by decide), ekb, up2_a _ _ _ (by decide)])] at b175
                  refine lv_if_eq (tgt := 238) hx hb dX3_go_178 (by decide) (fun c178 => ?_) (fun cZ => absurd (by decide) cZ)
                  refine lv_aload_n hx hb dX3_go_238 rfl (lv_at hl 0 rfl) ?_
                  refine lv_iload_n hx hb dX3_go_239 rfl (lv_at hl 1 rfl) ?_
                  refine lv_if_ne (tgt := 256) hx hb dX3_go_240 (by decide) (fun c240 => ?_) (fun cZ => absurd cZ (by decide))
                  refine lv_iconst (v := 4) hx hb dX3_go_256 (by decide) ?_
                  refine lv_goto (tgt := 261) hx hb dX3_go_257 (by decide) ?_
                  refine r_puti B hM 11 hL.1 rfl (by decide) rfl rfl q1393 dX3_go_261 (fun ka_27 H locs eka_27 hM => ?_)
                  refine lv_aload_n hx hb dX3_go_264 rfl (lv_at hl 0 rfl) ?_
                  refine lv_aload_n hx hb dX3_go_265 rfl (lv_at hl 0 rfl) ?_
                  refine r_geti B hM 9 hL.1 rfl (by decide) rfl rfl q1391 dX3_go_266 ?_
                  refine r_topv (v := nI e) (by rw [eka_27, up2_i _ _ _ _ (by decide), ekc, up2_s]) ?_
                  refine r_puti B hM 13 hL.1 rfl (by decide) rfl rfl q1395 dX3_go_269 (fun ka_28 H locs eka_28 hM => ?_)
                  refine lv_goto (tgt := 303) hx hb dX3_go_272 (by decide) ?_
                  refine r_vret B hr hM dX3_go_303 ?_
                  rw [goF_at hn hx9 (by omega) (by omega) hA, goG]
                  have hee : fend (ka 1007) n i = (e, v) := by rw [← hfe]; exact fgT_e b175
                  rw [if_neg n71, if_neg hnl, if_pos hfg, hee]; dsimp only
                  rw [if_pos (Or.inl c54)]
                  rw [eka_28, eka_27, ekc, ekz, eka_1, ekb]
                  simp only [up2_w1, up2_w2, up1_s, up1_up1, nI_1]
                  all_goals (congr 1; funext k; simp only [rw1, va_up]; grind)
            refine lv_aload_n hx hb dX3_go_82 rfl (lv_at hl 1 rfl) ?_
            refine lv_aload_n hx hb dX3_go_83 rfl (lv_at hl 1 rfl) ?_
            refine r_geti B hM 10 hL.1 rfl (by decide) rfl rfl q1392 dX3_go_84 ?_
            refine r_topv (v := nI i) (by rw [eka_1, up2_s]) ?_
            refine k_pb (r_V (As := [.int (nI i)]) (rest := []) B hM hL.1 rfl rfl (ok_isLetter hL hn96 (n := n) ((show ka_1 1099 8 = ka 1099 8 from (by rw [eka_1, up2_i _ _ _ _ (by decide), ekb, up2_i _ _ _ _ (by decide)])).trans hn) (k := i) (by omega)) cal_X3_isLetter q1745 rfl hl.1 (Nat.le_of_ble_eq_true rfl) dX3_go_87 ⟨Nat.le_of_ble_eq_true rfl, Nat.le_of_ble_eq_true rfl⟩ ⟨Nat.le_of_ble_eq_true rfl, Nat.le_of_ble_eq_true rfl⟩) hM (fun H locs b87 hM => ?_) (fun H locs b87 hM => ?_)
            · rw [(show ka_1 1007 = ka 1007 by rw [eka_1, up2_a _ _ _ (by decide), ekb, up2_a _ _ _ (by decide)])] at b87
              refine lv_if_eq (tgt := 154) hx hb dX3_go_90 (by decide) (fun cZ => absurd cZ (by decide)) (fun c90 => ?_)
              exact loop1 (n + 1) i ka_1 (by omega) (Nat.le_refl _) hi rfl b87 (up2_self (by rw [eka_1, up2_i _ _ _ _ (by decide), ekb, up2_s])) _ _ _ (lv_sub hl [1, 0] rfl) hM
            · rw [(show ka_1 1007 = ka 1007 by rw [eka_1, up2_a _ _ _ (by decide), ekb, up2_a _ _ _ (by decide)])] at b87
              refine lv_if_eq (tgt := 154) hx hb dX3_go_90 (by decide) (fun c90 => ?_) (fun cZ => absurd (by decide) cZ)
              refine lv_aload_n hx hb dX3_go_154 rfl (lv_at hl 1 rfl) ?_
              refine lv_aload_n hx hb dX3_go_155 rfl (lv_at hl 1 rfl) ?_
              refine r_geti B hM 10 hL.1 rfl (by decide) rfl rfl q1392 dX3_go_156 ?_
              refine r_topv (v := nI i) (by rw [eka_1, up2_s]) ?_
              refine k_pb (r_V (As := [.int (nI i)]) (rest := []) B hM hL.1 rfl rfl (ok_isFigure hL hn96 (n := n) ((show ka_1 1099 8 = ka 1099 8 from (by rw [eka_1, up2_i _ _ _ _ (by decide), ekb, up2_i _ _ _ _ (by decide)])).trans hn) (k := i) (by omega)) cal_X3_isFigure q1749 rfl hl.1 (Nat.le_of_ble_eq_true rfl) dX3_go_159 ⟨Nat.le_of_ble_eq_true rfl, Nat.le_of_ble_eq_true rfl⟩ ⟨Nat.le_of_ble_eq_true rfl, Nat.le_of_ble_eq_true rfl⟩) hM (fun H locs b159 hM => ?_) (fun H locs b159 hM => ?_)
              · rw [(show ka_1 1007 = ka 1007 by rw [eka_1, up2_a _ _ _ (by decide), ekb, up2_a _ _ _ (by decide)])] at b159
                refine lv_if_eq (tgt := 275) hx hb dX3_go_162 (by decide) (fun cZ => absurd cZ (by decide)) (fun c162 => ?_)
                refine lv_aload_n hx hb dX3_go_165 rfl (lv_at hl 1 rfl) ?_
                refine lv_iconst (v := 0) hx hb dX3_go_166 (by decide) ?_
                refine r_puti B hM 12 hL.1 rfl (by decide) rfl rfl q1394 dX3_go_167 (fun ka_29 H locs eka_29 hM => ?_)
                exact loop2 (n + 1) i 0 ka_29 ka_29 (by omega) (Nat.le_refl _) hi rfl b87 b159 eka_29 (up2_self (by rw [eka_29, up2_i _ _ _ _ (by decide), eka_1, up2_i _ _ _ _ (by decide), ekb, up2_s])) _ _ _ (lv_sub hl [1, 0] rfl) hM
              · rw [(show ka_1 1007 = ka 1007 by rw [eka_1, up2_a _ _ _ (by decide), ekb, up2_a _ _ _ (by decide)])] at b159
                refine lv_if_eq (tgt := 275) hx hb dX3_go_162 (by decide) (fun c162 => ?_) (fun cZ => absurd (by decide) cZ)
                refine lv_aload_n hx hb dX3_go_275 rfl (lv_at hl 1 rfl) ?_
                refine lv_iconst (v := 3) hx hb dX3_go_276 (by decide) ?_
                refine r_puti B hM 11 hL.1 rfl (by decide) rfl rfl q1393 dX3_go_277 (fun ka_30 H locs eka_30 hM => ?_)
                refine lv_aload_n hx hb dX3_go_280 rfl (lv_at hl 1 rfl) ?_
                refine lv_aload_n hx hb dX3_go_281 rfl (lv_at hl 1 rfl) ?_
                refine r_getq B hM 7 hL.1 rfl (by decide) rfl rfl (hL.2 7 _ _ rfl).1 q1389 dX3_go_282 ?_
                refine lv_aload_n hx hb dX3_go_285 rfl (lv_at hl 1 rfl) ?_
                refine r_geti B hM 10 hL.1 rfl (by decide) rfl rfl q1392 dX3_go_286 ?_
                refine r_topv (v := nI i) (by rw [eka_30, up2_i _ _ _ _ (by decide), eka_1, up2_s]) ?_
                refine r_ild B hM i (hL.2 7 _ _ rfl).2 rfl (by omega) (by decide) dX3_go_289 ?_
                refine r_topv (v := ka 1007 i) (by rw [eka_30, up2_a _ _ _ (by decide), eka_1, up2_a _ _ _ (by decide), ekb, up2_a _ _ _ (by decide)]) ?_
                refine r_puti B hM 12 hL.1 rfl (by decide) rfl rfl q1394 dX3_go_290 (fun ka_31 H locs eka_31 hM => ?_)
                refine lv_aload_n hx hb dX3_go_293 rfl (lv_at hl 1 rfl) ?_
                refine lv_dup hx hb dX3_go_294 rfl ?_
                refine r_geti B hM 9 hL.1 rfl (by decide) rfl rfl q1391 dX3_go_295 ?_
                refine r_topv (v := nI i) (by rw [eka_31, up2_i _ _ _ _ (by decide), eka_30, up2_i _ _ _ _ (by decide), eka_1, up2_i _ _ _ _ (by decide), ekb, up2_s]) ?_
                refine lv_iconst (v := 1) hx hb dX3_go_298 (by decide) ?_
                refine lv_iadd hx hb dX3_go_299 ?_
                refine r_puti B hM 9 hL.1 rfl (by decide) rfl rfl q1391 dX3_go_300 (fun ka_32 H locs eka_32 hM => ?_)
                refine r_vret B hr hM dX3_go_303 ?_
                rw [goF_at hn hx9 (by omega) (by omega) hA, goG]
                rw [if_neg n71, if_neg b87, if_neg b159]
                rw [eka_32, eka_31, eka_30, eka_1, ekb]
                simp only [up2_w1, up2_w2, up1_s, up1_up1, nI_1]
                all_goals (congr 1; funext k; simp only [rw1, va_up]; grind)
          · have n71 : i = n := ntEq rfl (by rw [hn]) (by omega) (by omega) c71
            refine lv_aload_n hx hb dX3_go_74 rfl (lv_at hl 1 rfl) ?_
            refine lv_iconst (v := 0) hx hb dX3_go_75 (by decide) ?_
            refine r_puti B hM 11 hL.1 rfl (by decide) rfl rfl q1393 dX3_go_76 (fun ka_33 H locs eka_33 hM => ?_)
            refine lv_goto (tgt := 303) hx hb dX3_go_79 (by decide) ?_
            refine r_vret B hr hM dX3_go_303 ?_
            rw [goF_at hn hx9 (by omega) (by omega) hA, goG]
            rw [if_pos n71]
            rw [eka_33, eka_1, ekb]
            simp only [up2_w1, up2_w2, up1_s, up1_up1, nI_1]
            all_goals (congr 1; funext k; simp only [rw1, va_up]; grind)
      · have n8 : i < n := ntNle (by rw [hn]) rfl (by omega) (by omega) c8
        refine lv_aload_n hx hb dX3_go_11 rfl (lv_at hl 0 rfl) ?_
        refine r_getq B hM 7 hL.1 rfl (by decide) rfl rfl (hL.2 7 _ _ rfl).1 q1389 dX3_go_12 ?_
        refine lv_aload_n hx hb dX3_go_15 rfl (lv_at hl 0 rfl) ?_
        refine r_geti B hM 9 hL.1 rfl (by decide) rfl rfl q1391 dX3_go_16 ?_
        refine r_topv (v := nI i) (by rw [ekb, up2_s]) ?_
        refine r_ild B hM i (hL.2 7 _ _ rfl).2 rfl (by omega) (by decide) dX3_go_19 ?_
        refine r_topv (v := ka 1007 i) (by rw [ekb, up2_a _ _ _ (by decide)]) ?_
        refine lv_bipush (v := 32) hx hb dX3_go_20 (by decide) ?_
        refine lv_icmp_ne (tgt := 38) hx hb dX3_go_22 (by decide) (fun c22 => ?_) (fun c22 => ?_)
        · have hA : skp (ka 1007) n x = i := by rw [← hsk]; exact skp_e (fun q => c22 q.2)
          refine lv_aload_n hx hb dX3_go_38 rfl (lv_at hl 0 rfl) ?_
          refine lv_aload_n hx hb dX3_go_39 rfl (lv_at hl 0 rfl) ?_
          refine r_geti B hM 9 hL.1 rfl (by decide) rfl rfl q1391 dX3_go_40 ?_
          refine r_topv (v := nI i) (by rw [ekb, up2_s]) ?_
          refine r_puti B hM 10 hL.1 rfl (by decide) rfl rfl q1392 dX3_go_43 (fun ka_34 H locs eka_34 hM => ?_)
          refine lv_aload_n hx hb dX3_go_46 rfl (lv_at hl 0 rfl) ?_
          refine r_geti B hM 10 hL.1 rfl (by decide) rfl rfl q1392 dX3_go_47 ?_
          refine r_topv (v := nI i) (by rw [eka_34, up2_s]) ?_
          refine lv_aload_n hx hb dX3_go_50 rfl (lv_at hl 0 rfl) ?_
          refine r_geti B hM 13 hL.1 rfl (by decide) rfl rfl q1395 dX3_go_51 ?_
          refine r_topv (v := ka 1099 13) (by rw [eka_34, up2_i _ _ _ _ (by decide), ekb, up2_i _ _ _ _ (by decide)]) ?_
          refine lv_icmp_ne (tgt := 61) hx hb dX3_go_54 (by decide) (fun c54 => ?_) (fun c54 => ?_)
          · refine lv_iconst (v := 0) hx hb dX3_go_61 (by decide) ?_
            refine lv_istore_n (lv' := [(1, .int 0), (0, .ref y0)]) hx hb dX3_go_62 rfl hl (by decide) rfl (fun ls hl => ?_)
            refine lv_aload_n hx hb dX3_go_63 rfl (lv_at hl 1 rfl) ?_
            refine r_geti B hM 10 hL.1 rfl (by decide) rfl rfl q1392 dX3_go_64 ?_
            refine r_topv (v := nI i) (by rw [eka_34, up2_s]) ?_
            refine lv_aload_n hx hb dX3_go_67 rfl (lv_at hl 1 rfl) ?_
            refine r_geti B hM 8 hL.1 rfl (by decide) rfl rfl q1390 dX3_go_68 ?_
            refine r_topv (v := ka 1099 8) (by rw [eka_34, up2_i _ _ _ _ (by decide), ekb, up2_i _ _ _ _ (by decide)]) ?_
            refine lv_icmp_ne (tgt := 82) hx hb dX3_go_71 (by decide) (fun c71 => ?_) (fun c71 => ?_)
            · have n71 : i ≠ n := ntNe rfl (by rw [hn]) (by omega) (by omega) c71
              have loop1 : ∀ (fu_loop1 : Nat) (e : Nat) (kc : Ka), n - e < fu_loop1 → (i ≤ e) → (e ≤ n) → (lend (ka 1007) n e = lend (ka 1007) n i) → (ltr (ka 1007) n i) → (kc = up2 ka_34 1099 9 (nI e)) → ∀ (ls : Array Slot) (H : Heap) (locs : List Loc), lv_has ls 2 [(0, .ref y0), (1, .int 0)] → Md G th rh ph kc H locs → W p_ l e_ (RM 2 0 0) s_ m_ ([.ref y0].toArray) below_ meth_ c_ H locs 0 0 (MQ below_ (Qv G th rh ph (fun ka' => ka' = up1 ka 1099 (goF (ka 1007) (ka 1099)))) ([.ref y0].toArray) s_ 0 0 (frG G)) (F0 m_ 93 ls []) := by
                intro fu_loop1
                induction fu_loop1 with
                | zero => intro e kc hfu; exact absurd hfu (Nat.not_lt_zero _)
                | succ fu_loop1 ih_loop1 =>
                  intro e kc hfu_loop1 hie hen hle hlt ekc ls H locs hl hM
                  refine lv_aload_n hx hb dX3_go_93 rfl (lv_at hl 0 rfl) ?_
                  refine lv_aload_n hx hb dX3_go_94 rfl (lv_at hl 0 rfl) ?_
                  refine r_geti B hM 9 hL.1 rfl (by decide) rfl rfl q1391 dX3_go_95 ?_
                  refine r_topv (v := nI e) (by rw [ekc, up2_s]) ?_
                  refine k_pb (r_V (As := [.int (nI e)]) (rest := []) B hM hL.1 rfl rfl (ok_isLetter hL hn96 (n := n) ((show kc 1099 8 = ka 1099 8 from (by rw [ekc, up2_i _ _ _ _ (by decide), eka_34, up2_i _ _ _ _ (by decide), ekb, up2_i _ _ _ _ (by decide)])).trans hn) (k := e) (by omega)) cal_X3_isLetter q1745 rfl hl.1 (Nat.le_of_ble_eq_true rfl) dX3_go_98 ⟨Nat.le_of_ble_eq_true rfl, Nat.le_of_ble_eq_true rfl⟩ ⟨Nat.le_of_ble_eq_true rfl, Nat.le_of_ble_eq_true rfl⟩) hM (fun H locs b98 hM => ?_) (fun H locs b98 hM => ?_)
                  · rw [(show kc 1007 = ka 1007 by rw [ekc, up2_a _ _ _ (by decide), eka_34, up2_a _ _ _ (by decide), ekb, up2_a _ _ _ (by decide)])] at b98
                    refine lv_if_eq (tgt := 117) hx hb dX3_go_101 (by decide) (fun cZ => absurd cZ (by decide)) (fun c101 => ?_)
                    refine lv_aload_n hx hb dX3_go_104 rfl (lv_at hl 0 rfl) ?_
                    refine lv_dup hx hb dX3_go_105 rfl ?_
                    refine r_geti B hM 9 hL.1 rfl (by decide) rfl rfl q1391 dX3_go_106 ?_
                    refine r_topv (v := nI e) (by rw [ekc, up2_s]) ?_
                    refine lv_iconst (v := 1) hx hb dX3_go_109 (by decide) ?_
                    refine lv_iadd hx hb dX3_go_110 ?_
                    refine r_puti B hM 9 hL.1 rfl (by decide) rfl rfl q1391 dX3_go_111 (fun ka_35 H locs eka_35 hM => ?_)
                    refine lv_goto (tgt := 93) hx hb dX3_go_114 (by decide) ?_
                    exact ih_loop1 (e + 1) ka_35 (by omega) (by omega) (by omega) ((lend_s b98).trans hle) hlt (by rw [eka_35, ekc, nI_1, up2_up2]) _ _ _ (lv_sub hl [0, 1] rfl) hM
                  · rw [(show kc 1007 = ka 1007 by rw [ekc, up2_a _ _ _ (by decide), eka_34, up2_a _ _ _ (by decide), ekb, up2_a _ _ _ (by decide)])] at b98
                    refine lv_if_eq (tgt := 117) hx hb dX3_go_101 (by decide) (fun c101 => ?_) (fun cZ => absurd (by decide) cZ)
                    refine lv_aload_n hx hb dX3_go_117 rfl (lv_at hl 0 rfl) ?_
                    refine lv_iload_n hx hb dX3_go_118 rfl (lv_at hl 1 rfl) ?_
                    refine lv_if_eq (tgt := 126) hx hb dX3_go_119 (by decide) (fun c119 => ?_) (fun cZ => absurd (by decide) cZ)
                    refine lv_iconst (v := 1) hx hb dX3_go_126 (by decide) ?_
                    refine r_puti B hM 11 hL.1 rfl (by decide) rfl rfl q1393 dX3_go_127 (fun ka_36 H locs eka_36 hM => ?_)
                    refine lv_aload_n hx hb dX3_go_130 rfl (lv_at hl 0 rfl) ?_
                    refine lv_aload_n hx hb dX3_go_131 rfl (lv_at hl 0 rfl) ?_
                    refine r_getq B hM 7 hL.1 rfl (by decide) rfl rfl (hL.2 7 _ _ rfl).1 q1389 dX3_go_132 ?_
                    refine lv_aload_n hx hb dX3_go_135 rfl (lv_at hl 0 rfl) ?_
                    refine r_geti B hM 10 hL.1 rfl (by decide) rfl rfl q1392 dX3_go_136 ?_
                    refine r_topv (v := nI i) (by rw [eka_36, up2_i _ _ _ _ (by decide), ekc, up2_i _ _ _ _ (by decide), eka_34, up2_s]) ?_
                    refine r_ild B hM i (hL.2 7 _ _ rfl).2 rfl (by omega) (by decide) dX3_go_139 ?_
                    refine r_topv (v := ka 1007 i) (by rw [eka_36, up2_a _ _ _ (by decide), ekc, up2_a _ _ _ (by decide), eka_34, up2_a _ _ _ (by decide), ekb, up2_a _ _ _ (by decide)]) ?_
                    refine r_puti B hM 12 hL.1 rfl (by decide) rfl rfl q1394 dX3_go_140 (fun ka_37 H locs eka_37 hM => ?_)
                    refine lv_aload_n hx hb dX3_go_143 rfl (lv_at hl 0 rfl) ?_
                    refine lv_aload_n hx hb dX3_go_144 rfl (lv_at hl 0 rfl) ?_
                    refine r_geti B hM 9 hL.1 rfl (by decide) rfl rfl q1391 dX3_go_145 ?_
                    refine r_topv (v := nI e) (by rw [eka_37, up2_i _ _ _ _ (by decide), eka_36, up2_i _ _ _ _ (by decide), ekc, up2_s]) ?_
                    refine r_puti B hM 13 hL.1 rfl (by decide) rfl rfl q1395 dX3_go_148 (fun ka_38 H locs eka_38 hM => ?_)
                    refine lv_goto (tgt := 303) hx hb dX3_go_151 (by decide) ?_
                    refine r_vret B hr hM dX3_go_303 ?_
                    rw [goF_at hn hx9 (by omega) (by omega) hA, goG]
                    have hee : e = lend (ka 1007) n i := by rw [← hle]; exact (lend_e b98).symm
                    rw [if_neg n71, if_pos hlt, ← hee, if_neg c54]
                    rw [eka_38, eka_37, eka_36, ekc, eka_34, ekb]
                    simp only [up2_w1, up2_w2, up1_s, up1_up1, nI_1]
                    all_goals (congr 1; funext k; simp only [rw1, va_up]; grind)
              have loop2 : ∀ (fu_loop2 : Nat) (e : Nat) (v : Int32) (kz : Ka) (kc : Ka), n - e < fu_loop2 → (i ≤ e) → (e ≤ n) → (fgT (ka 1007) n i (n - e) e v = fend (ka 1007) n i) → (¬ ltr (ka 1007) n i) → (fig (ka 1007) n i) → (kz = up2 ka_34 1099 12 v) → (kc = up2 kz 1099 9 (nI e)) → ∀ (ls : Array Slot) (H : Heap) (locs : List Loc), lv_has ls 2 [(0, .ref y0), (1, .int 0)] → Md G th rh ph kc H locs → W p_ l e_ (RM 2 0 0) s_ m_ ([.ref y0].toArray) below_ meth_ c_ H locs 0 0 (MQ below_ (Qv G th rh ph (fun ka' => ka' = up1 ka 1099 (goF (ka 1007) (ka 1099)))) ([.ref y0].toArray) s_ 0 0 (frG G)) (F0 m_ 170 ls []) := by
                intro fu_loop2
                induction fu_loop2 with
                | zero => intro e v kz kc hfu; exact absurd hfu (Nat.not_lt_zero _)
                | succ fu_loop2 ih_loop2 =>
                  intro e v kz kc hfu_loop2 hie hen hfe hnl hfg ekz ekc ls H locs hl hM
                  refine lv_aload_n hx hb dX3_go_170 rfl (lv_at hl 0 rfl) ?_
                  refine lv_aload_n hx hb dX3_go_171 rfl (lv_at hl 0 rfl) ?_
                  refine r_geti B hM 9 hL.1 rfl (by decide) rfl rfl q1391 dX3_go_172 ?_
                  refine r_topv (v := nI e) (by rw [ekc, up2_s]) ?_
                  refine k_pb (r_V (As := [.int (nI e)]) (rest := []) B hM hL.1 rfl rfl (ok_isFigure hL hn96 (n := n) ((show kc 1099 8 = ka 1099 8 from (by rw [ekc, up2_i _ _ _ _ (by decide), ekz, up2_i _ _ _ _ (by decide), eka_34, up2_i _ _ _ _ (by decide), ekb, up2_i _ _ _ _ (by decide)])).trans hn) (k := e) (by omega)) cal_X3_isFigure q1749 rfl hl.1 (Nat.le_of_ble_eq_true rfl) dX3_go_175 ⟨Nat.le_of_ble_eq_true rfl, Nat.le_of_ble_eq_true rfl⟩ ⟨Nat.le_of_ble_eq_true rfl, Nat.le_of_ble_eq_true rfl⟩) hM (fun H locs b175 hM => ?_) (fun H locs b175 hM => ?_)
                  · rw [(show kc 1007 = ka 1007 by rw [ekc, up2_a _ _ _ (by decide), ekz, up2_a _ _ _ (by decide), eka_34, up2_a _ _ _ (by decide), ekb, up2_a _ _ _ (by decide)])] at b175
                    refine lv_if_eq (tgt := 238) hx hb dX3_go_178 (by decide) (fun cZ => absurd cZ (by decide)) (fun c178 => ?_)
                    refine lv_aload_n hx hb dX3_go_181 rfl (lv_at hl 0 rfl) ?_
                    refine lv_aload_n hx hb dX3_go_182 rfl (lv_at hl 0 rfl) ?_
                    refine r_geti B hM 9 hL.1 rfl (by decide) rfl rfl q1391 dX3_go_183 ?_
                    refine r_topv (v := nI e) (by rw [ekc, up2_s]) ?_
                    refine lv_aload_n hx hb dX3_go_186 rfl (lv_at hl 0 rfl) ?_
                    refine r_geti B hM 10 hL.1 rfl (by decide) rfl rfl q1392 dX3_go_187 ?_
                    refine r_topv (v := nI i) (by rw [ekc, up2_i _ _ _ _ (by decide), ekz, up2_i _ _ _ _ (by decide), eka_34, up2_s]) ?_
                    refine lv_isub hx hb dX3_go_190 ?_
                    refine r_topv (v := nI (e - i)) (nI_subN (by omega)) ?_
                    refine lv_iconst (v := 4) hx hb dX3_go_191 (by decide) ?_
                    refine lv_icmp_ge (tgt := 218) hx hb dX3_go_192 (by decide) (fun c192 => ?_) (fun c192 => ?_)
                    · have n192 : 4 ≤ e - i := ntLe rfl rfl (by omega) (by omega) c192
                      refine lv_aload_n hx hb dX3_go_218 rfl (lv_at hl 0 rfl) ?_
                      refine r_geti B hM 12 hL.1 rfl (by decide) rfl rfl q1394 dX3_go_219 ?_
                      refine r_topv (v := v) (by rw [ekc, up2_i _ _ _ _ (by decide), ekz, up2_s]) ?_
                      refine r_puti B hM 12 hL.1 rfl (by decide) rfl rfl q1394 dX3_go_222 (fun ka_39 H locs eka_39 hM => ?_)
                      refine lv_aload_n hx hb dX3_go_225 rfl (lv_at hl 0 rfl) ?_
                      refine lv_dup hx hb dX3_go_226 rfl ?_
                      refine r_geti B hM 9 hL.1 rfl (by decide) rfl rfl q1391 dX3_go_227 ?_
                      refine r_topv (v := nI e) (by rw [eka_39, up2_i _ _ _ _ (by decide), ekc, up2_s]) ?_
                      refine lv_iconst (v := 1) hx hb dX3_go_230 (by decide) ?_
                      refine lv_iadd hx hb dX3_go_231 ?_
                      refine r_puti B hM 9 hL.1 rfl (by decide) rfl rfl q1391 dX3_go_232 (fun ka_40 H locs eka_40 hM => ?_)
                      refine lv_goto (tgt := 170) hx hb dX3_go_235 (by decide) ?_
                      exact ih_loop2 (e + 1) v (up2 ka_34 1099 12 v) ka_40 (by omega) (by omega) (by omega) (by rw [← hfe, ← fgT_s b175, if_neg (by omega)]) hnl hfg rfl (by rw [eka_40, eka_39, ekc, ekz, nI_1]; exact fg_kb) _ _ _ (lv_sub hl [0, 1] rfl) hM
                    · have n192 : e - i < 4 := ntNle rfl rfl (by omega) (by omega) c192
                      refine lv_bipush (v := 10) hx hb dX3_go_195 (by decide) ?_
                      refine lv_aload_n hx hb dX3_go_197 rfl (lv_at hl 0 rfl) ?_
                      refine r_geti B hM 12 hL.1 rfl (by decide) rfl rfl q1394 dX3_go_198 ?_
                      refine r_topv (v := v) (by rw [ekc, up2_i _ _ _ _ (by decide), ekz, up2_s]) ?_
                      refine lv_imul hx hb dX3_go_201 ?_
                      refine lv_aload_n hx hb dX3_go_202 rfl (lv_at hl 0 rfl) ?_
                      refine r_getq B hM 7 hL.1 rfl (by decide) rfl rfl (hL.2 7 _ _ rfl).1 q1389 dX3_go_203 ?_
                      refine lv_aload_n hx hb dX3_go_206 rfl (lv_at hl 0 rfl) ?_
                      refine r_geti B hM 9 hL.1 rfl (by decide) rfl rfl q1391 dX3_go_207 ?_
                      refine r_topv (v := nI e) (by rw [ekc, up2_s]) ?_
                      refine r_ild B hM e (hL.2 7 _ _ rfl).2 rfl (by omega) (by decide) dX3_go_210 ?_
                      refine r_topv (v := ka 1007 e) (by rw [ekc, up2_a _ _ _ (by decide), ekz, up2_a _ _ _ (by decide), eka_34, up2_a _ _ _ (by decide), ekb, up2_a _ _ _ (by decide)]) ?_
                      refine lv_iadd hx hb dX3_go_211 ?_
                      refine lv_bipush (v := 48) hx hb dX3_go_212 (by decide) ?_
                      refine lv_isub hx hb dX3_go_214 ?_
                      refine lv_goto (tgt := 222) hx hb dX3_go_215 (by decide) ?_
                      refine r_puti B hM 12 hL.1 rfl (by decide) rfl rfl q1394 dX3_go_222 (fun ka_41 H locs eka_41 hM => ?_)
                      refine lv_aload_n hx hb dX3_go_225 rfl (lv_at hl 0 rfl) ?_
                      refine lv_dup hx hb dX3_go_226 rfl ?_
                      refine r_geti B hM 9 hL.1 rfl (by decide) rfl rfl q1391 dX3_go_227 ?_
                      refine r_topv (v := nI e) (by rw [eka_41, up2_i _ _ _ _ (by decide), ekc, up2_s]) ?_
                      refine lv_iconst (v := 1) hx hb dX3_go_230 (by decide) ?_
                      refine lv_iadd hx hb dX3_go_231 ?_
                      refine r_puti B hM 9 hL.1 rfl (by decide) rfl rfl q1391 dX3_go_232 (fun ka_42 H locs eka_42 hM => ?_)
                      refine lv_goto (tgt := 170) hx hb dX3_go_235 (by decide) ?_
                      exact ih_loop2 (e + 1) ((((10 : Int32) * v) + (ka 1007 e)) - 48) (up2 ka_34 1099 12 ((((10 : Int32) * v) + (ka 1007 e)) - 48)) ka_42 (by omega) (by omega) (by omega) (by rw [← hfe, ← fgT_s b175, if_pos (by omega)]) hnl hfg rfl (by rw [eka_42, eka_41, ekc, ekz, nI_1]; exact fg_kb) _ _ _ (lv_sub hl [0, 1] rfl) hM
                  · rw [(show kc 1007 = ka 1007 by rw [ekc, up2_a _ _ _ (by decide), ekz, up2_a _ _ _ (by decide), eka_34, up2_a _ _ _ (by decide), ekb, up2_a _ _ _ (by decide)])] at b175
                    refine lv_if_eq (tgt := 238) hx hb dX3_go_178 (by decide) (fun c178 => ?_) (fun cZ => absurd (by decide) cZ)
                    refine lv_aload_n hx hb dX3_go_238 rfl (lv_at hl 0 rfl) ?_
                    refine lv_iload_n hx hb dX3_go_239 rfl (lv_at hl 1 rfl) ?_
                    refine lv_if_ne (tgt := 256) hx hb dX3_go_240 (by decide) (fun cZ => absurd (by decide) cZ) (fun c240 => ?_)
                    refine lv_aload_n hx hb dX3_go_243 rfl (lv_at hl 0 rfl) ?_
                    refine r_geti B hM 9 hL.1 rfl (by decide) rfl rfl q1391 dX3_go_244 ?_
                    refine r_topv (v := nI e) (by rw [ekc, up2_s]) ?_
                    refine lv_aload_n hx hb dX3_go_247 rfl (lv_at hl 0 rfl) ?_
                    refine r_geti B hM 10 hL.1 rfl (by decide) rfl rfl q1392 dX3_go_248 ?_
                    refine r_topv (v := nI i) (by rw [ekc, up2_i _ _ _ _ (by decide), ekz, up2_i _ _ _ _ (by decide), eka_34, up2_s]) ?_
                    refine lv_isub hx hb dX3_go_251 ?_
                    refine r_topv (v := nI (e - i)) (nI_subN (by omega)) ?_
                    refine lv_iconst (v := 4) hx hb dX3_go_252 (by decide) ?_
                    refine lv_icmp_le (tgt := 260) hx hb dX3_go_253 (by decide) (fun c253 => ?_) (fun c253 => ?_)
                    · have n253 : e - i ≤ 4 := ntLe rfl rfl (by omega) (by omega) c253
                      refine lv_iconst (v := 2) hx hb dX3_go_260 (by decide) ?_
                      refine r_puti B hM 11 hL.1 rfl (by decide) rfl rfl q1393 dX3_go_261 (fun ka_43 H locs eka_43 hM => ?_)
                      refine lv_aload_n hx hb dX3_go_264 rfl (lv_at hl 0 rfl) ?_
                      refine lv_aload_n hx hb dX3_go_265 rfl (lv_at hl 0 rfl) ?_
                      refine r_geti B hM 9 hL.1 rfl (by decide) rfl rfl q1391 dX3_go_266 ?_
                      refine r_topv (v := nI e) (by rw [eka_43, up2_i _ _ _ _ (by decide), ekc, up2_s]) ?_
                      refine r_puti B hM 13 hL.1 rfl (by decide) rfl rfl q1395 dX3_go_269 (fun ka_44 H locs eka_44 hM => ?_)
                      refine lv_goto (tgt := 303) hx hb dX3_go_272 (by decide) ?_
                      refine r_vret B hr hM dX3_go_303 ?_
                      rw [goF_at hn hx9 (by omega) (by omega) hA, goG]
                      have hee : fend (ka 1007) n i = (e, v) := by rw [← hfe]; exact fgT_e b175
                      rw [if_neg n71, if_neg hnl, if_pos hfg, hee]; dsimp only
                      rw [if_neg (fun q => q.elim c54 (by omega))]
                      rw [eka_44, eka_43, ekc, ekz, eka_34, ekb]
                      simp only [up2_w1, up2_w2, up1_s, up1_up1, nI_1]
                      all_goals (congr 1; funext k; simp only [rw1, va_up]; grind)
                    · have n253 : 4 < e - i := ntNle rfl rfl (by omega) (by omega) c253
                      refine lv_iconst (v := 4) hx hb dX3_go_256 (by decide) ?_
                      refine lv_goto (tgt := 261) hx hb dX3_go_257 (by decide) ?_
                      refine r_puti B hM 11 hL.1 rfl (by decide) rfl rfl q1393 dX3_go_261 (fun ka_45 H locs eka_45 hM => ?_)
                      refine lv_aload_n hx hb dX3_go_264 rfl (lv_at hl 0 rfl) ?_
                      refine lv_aload_n hx hb dX3_go_265 rfl (lv_at hl 0 rfl) ?_
                      refine r_geti B hM 9 hL.1 rfl (by decide) rfl rfl q1391 dX3_go_266 ?_
                      refine r_topv (v := nI e) (by rw [eka_45, up2_i _ _ _ _ (by decide), ekc, up2_s]) ?_
                      refine r_puti B hM 13 hL.1 rfl (by decide) rfl rfl q1395 dX3_go_269 (fun ka_46 H locs eka_46 hM => ?_)
                      refine lv_goto (tgt := 303) hx hb dX3_go_272 (by decide) ?_
                      refine r_vret B hr hM dX3_go_303 ?_
                      rw [goF_at hn hx9 (by omega) (by omega) hA, goG]
                      have hee : fend (ka 1007) n i = (e, v) := by rw [← hfe]; exact fgT_e b175
                      rw [if_neg n71, if_neg hnl, if_pos hfg, hee]; dsimp only
                      rw [if_pos (Or.inr (by omega))]
                      rw [eka_46, eka_45, ekc, ekz, eka_34, ekb]
                      simp only [up2_w1, up2_w2, up1_s, up1_up1, nI_1]
                      all_goals (congr 1; funext k; simp only [rw1, va_up]; grind)
              refine lv_aload_n hx hb dX3_go_82 rfl (lv_at hl 1 rfl) ?_
              refine lv_aload_n hx hb dX3_go_83 rfl (lv_at hl 1 rfl) ?_
              refine r_geti B hM 10 hL.1 rfl (by decide) rfl rfl q1392 dX3_go_84 ?_
              refine r_topv (v := nI i) (by rw [eka_34, up2_s]) ?_
              refine k_pb (r_V (As := [.int (nI i)]) (rest := []) B hM hL.1 rfl rfl (ok_isLetter hL hn96 (n := n) ((show ka_34 1099 8 = ka 1099 8 from (by rw [eka_34, up2_i _ _ _ _ (by decide), ekb, up2_i _ _ _ _ (by decide)])).trans hn) (k := i) (by omega)) cal_X3_isLetter q1745 rfl hl.1 (Nat.le_of_ble_eq_true rfl) dX3_go_87 ⟨Nat.le_of_ble_eq_true rfl, Nat.le_of_ble_eq_true rfl⟩ ⟨Nat.le_of_ble_eq_true rfl, Nat.le_of_ble_eq_true rfl⟩) hM (fun H locs b87 hM => ?_) (fun H locs b87 hM => ?_)
              · rw [(show ka_34 1007 = ka 1007 by rw [eka_34, up2_a _ _ _ (by decide), ekb, up2_a _ _ _ (by decide)])] at b87
                refine lv_if_eq (tgt := 154) hx hb dX3_go_90 (by decide) (fun cZ => absurd cZ (by decide)) (fun c90 => ?_)
                exact loop1 (n + 1) i ka_34 (by omega) (Nat.le_refl _) hi rfl b87 (up2_self (by rw [eka_34, up2_i _ _ _ _ (by decide), ekb, up2_s])) _ _ _ (lv_sub hl [1, 0] rfl) hM
              · rw [(show ka_34 1007 = ka 1007 by rw [eka_34, up2_a _ _ _ (by decide), ekb, up2_a _ _ _ (by decide)])] at b87
                refine lv_if_eq (tgt := 154) hx hb dX3_go_90 (by decide) (fun c90 => ?_) (fun cZ => absurd (by decide) cZ)
                refine lv_aload_n hx hb dX3_go_154 rfl (lv_at hl 1 rfl) ?_
                refine lv_aload_n hx hb dX3_go_155 rfl (lv_at hl 1 rfl) ?_
                refine r_geti B hM 10 hL.1 rfl (by decide) rfl rfl q1392 dX3_go_156 ?_
                refine r_topv (v := nI i) (by rw [eka_34, up2_s]) ?_
                refine k_pb (r_V (As := [.int (nI i)]) (rest := []) B hM hL.1 rfl rfl (ok_isFigure hL hn96 (n := n) ((show ka_34 1099 8 = ka 1099 8 from (by rw [eka_34, up2_i _ _ _ _ (by decide), ekb, up2_i _ _ _ _ (by decide)])).trans hn) (k := i) (by omega)) cal_X3_isFigure q1749 rfl hl.1 (Nat.le_of_ble_eq_true rfl) dX3_go_159 ⟨Nat.le_of_ble_eq_true rfl, Nat.le_of_ble_eq_true rfl⟩ ⟨Nat.le_of_ble_eq_true rfl, Nat.le_of_ble_eq_true rfl⟩) hM (fun H locs b159 hM => ?_) (fun H locs b159 hM => ?_)
                · rw [(show ka_34 1007 = ka 1007 by rw [eka_34, up2_a _ _ _ (by decide), ekb, up2_a _ _ _ (by decide)])] at b159
                  refine lv_if_eq (tgt := 275) hx hb dX3_go_162 (by decide) (fun cZ => absurd cZ (by decide)) (fun c162 => ?_)
                  refine lv_aload_n hx hb dX3_go_165 rfl (lv_at hl 1 rfl) ?_
                  refine lv_iconst (v := 0) hx hb dX3_go_166 (by decide) ?_
                  refine r_puti B hM 12 hL.1 rfl (by decide) rfl rfl q1394 dX3_go_167 (fun ka_47 H locs eka_47 hM => ?_)
                  exact loop2 (n + 1) i 0 ka_47 ka_47 (by omega) (Nat.le_refl _) hi rfl b87 b159 eka_47 (up2_self (by rw [eka_47, up2_i _ _ _ _ (by decide), eka_34, up2_i _ _ _ _ (by decide), ekb, up2_s])) _ _ _ (lv_sub hl [1, 0] rfl) hM
                · rw [(show ka_34 1007 = ka 1007 by rw [eka_34, up2_a _ _ _ (by decide), ekb, up2_a _ _ _ (by decide)])] at b159
                  refine lv_if_eq (tgt := 275) hx hb dX3_go_162 (by decide) (fun c162 => ?_) (fun cZ => absurd (by decide) cZ)
                  refine lv_aload_n hx hb dX3_go_275 rfl (lv_at hl 1 rfl) ?_
                  refine lv_iconst (v := 3) hx hb dX3_go_276 (by decide) ?_
                  refine r_puti B hM 11 hL.1 rfl (by decide) rfl rfl q1393 dX3_go_277 (fun ka_48 H locs eka_48 hM => ?_)
                  refine lv_aload_n hx hb dX3_go_280 rfl (lv_at hl 1 rfl) ?_
                  refine lv_aload_n hx hb dX3_go_281 rfl (lv_at hl 1 rfl) ?_
                  refine r_getq B hM 7 hL.1 rfl (by decide) rfl rfl (hL.2 7 _ _ rfl).1 q1389 dX3_go_282 ?_
                  refine lv_aload_n hx hb dX3_go_285 rfl (lv_at hl 1 rfl) ?_
                  refine r_geti B hM 10 hL.1 rfl (by decide) rfl rfl q1392 dX3_go_286 ?_
                  refine r_topv (v := nI i) (by rw [eka_48, up2_i _ _ _ _ (by decide), eka_34, up2_s]) ?_
                  refine r_ild B hM i (hL.2 7 _ _ rfl).2 rfl (by omega) (by decide) dX3_go_289 ?_
                  refine r_topv (v := ka 1007 i) (by rw [eka_48, up2_a _ _ _ (by decide), eka_34, up2_a _ _ _ (by decide), ekb, up2_a _ _ _ (by decide)]) ?_
                  refine r_puti B hM 12 hL.1 rfl (by decide) rfl rfl q1394 dX3_go_290 (fun ka_49 H locs eka_49 hM => ?_)
                  refine lv_aload_n hx hb dX3_go_293 rfl (lv_at hl 1 rfl) ?_
                  refine lv_dup hx hb dX3_go_294 rfl ?_
                  refine r_geti B hM 9 hL.1 rfl (by decide) rfl rfl q1391 dX3_go_295 ?_
                  refine r_topv (v := nI i) (by rw [eka_49, up2_i _ _ _ _ (by decide), eka_48, up2_i _ _ _ _ (by decide), eka_34, up2_i _ _ _ _ (by decide), ekb, up2_s]) ?_
                  refine lv_iconst (v := 1) hx hb dX3_go_298 (by decide) ?_
                  refine lv_iadd hx hb dX3_go_299 ?_
                  refine r_puti B hM 9 hL.1 rfl (by decide) rfl rfl q1391 dX3_go_300 (fun ka_50 H locs eka_50 hM => ?_)
                  refine r_vret B hr hM dX3_go_303 ?_
                  rw [goF_at hn hx9 (by omega) (by omega) hA, goG]
                  rw [if_neg n71, if_neg b87, if_neg b159]
                  rw [eka_50, eka_49, eka_48, eka_34, ekb]
                  simp only [up2_w1, up2_w2, up1_s, up1_up1, nI_1]
                  all_goals (congr 1; funext k; simp only [rw1, va_up]; grind)
            · have n71 : i = n := ntEq rfl (by rw [hn]) (by omega) (by omega) c71
              refine lv_aload_n hx hb dX3_go_74 rfl (lv_at hl 1 rfl) ?_
              refine lv_iconst (v := 0) hx hb dX3_go_75 (by decide) ?_
              refine r_puti B hM 11 hL.1 rfl (by decide) rfl rfl q1393 dX3_go_76 (fun ka_51 H locs eka_51 hM => ?_)
              refine lv_goto (tgt := 303) hx hb dX3_go_79 (by decide) ?_
              refine r_vret B hr hM dX3_go_303 ?_
              rw [goF_at hn hx9 (by omega) (by omega) hA, goG]
              rw [if_pos n71]
              rw [eka_51, eka_34, ekb]
              simp only [up2_w1, up2_w2, up1_s, up1_up1, nI_1]
              all_goals (congr 1; funext k; simp only [rw1, va_up]; grind)
          · refine lv_iconst (v := 1) hx hb dX3_go_57 (by decide) ?_
            refine lv_goto (tgt := 62) hx hb dX3_go_58 (by decide) ?_
            refine lv_istore_n (lv' := [(1, .int 1), (0, .ref y0)]) hx hb dX3_go_62 rfl hl (by decide) rfl (fun ls hl => ?_)
            refine lv_aload_n hx hb dX3_go_63 rfl (lv_at hl 1 rfl) ?_
            refine r_geti B hM 10 hL.1 rfl (by decide) rfl rfl q1392 dX3_go_64 ?_
            refine r_topv (v := nI i) (by rw [eka_34, up2_s]) ?_
            refine lv_aload_n hx hb dX3_go_67 rfl (lv_at hl 1 rfl) ?_
            refine r_geti B hM 8 hL.1 rfl (by decide) rfl rfl q1390 dX3_go_68 ?_
            refine r_topv (v := ka 1099 8) (by rw [eka_34, up2_i _ _ _ _ (by decide), ekb, up2_i _ _ _ _ (by decide)]) ?_
            refine lv_icmp_ne (tgt := 82) hx hb dX3_go_71 (by decide) (fun c71 => ?_) (fun c71 => ?_)
            · have n71 : i ≠ n := ntNe rfl (by rw [hn]) (by omega) (by omega) c71
              have loop1 : ∀ (fu_loop1 : Nat) (e : Nat) (kc : Ka), n - e < fu_loop1 → (i ≤ e) → (e ≤ n) → (lend (ka 1007) n e = lend (ka 1007) n i) → (ltr (ka 1007) n i) → (kc = up2 ka_34 1099 9 (nI e)) → ∀ (ls : Array Slot) (H : Heap) (locs : List Loc), lv_has ls 2 [(0, .ref y0), (1, .int 1)] → Md G th rh ph kc H locs → W p_ l e_ (RM 2 0 0) s_ m_ ([.ref y0].toArray) below_ meth_ c_ H locs 0 0 (MQ below_ (Qv G th rh ph (fun ka' => ka' = up1 ka 1099 (goF (ka 1007) (ka 1099)))) ([.ref y0].toArray) s_ 0 0 (frG G)) (F0 m_ 93 ls []) := by
                intro fu_loop1
                induction fu_loop1 with
                | zero => intro e kc hfu; exact absurd hfu (Nat.not_lt_zero _)
                | succ fu_loop1 ih_loop1 =>
                  intro e kc hfu_loop1 hie hen hle hlt ekc ls H locs hl hM
                  refine lv_aload_n hx hb dX3_go_93 rfl (lv_at hl 0 rfl) ?_
                  refine lv_aload_n hx hb dX3_go_94 rfl (lv_at hl 0 rfl) ?_
                  refine r_geti B hM 9 hL.1 rfl (by decide) rfl rfl q1391 dX3_go_95 ?_
                  refine r_topv (v := nI e) (by rw [ekc, up2_s]) ?_
                  refine k_pb (r_V (As := [.int (nI e)]) (rest := []) B hM hL.1 rfl rfl (ok_isLetter hL hn96 (n := n) ((show kc 1099 8 = ka 1099 8 from (by rw [ekc, up2_i _ _ _ _ (by decide), eka_34, up2_i _ _ _ _ (by decide), ekb, up2_i _ _ _ _ (by decide)])).trans hn) (k := e) (by omega)) cal_X3_isLetter q1745 rfl hl.1 (Nat.le_of_ble_eq_true rfl) dX3_go_98 ⟨Nat.le_of_ble_eq_true rfl, Nat.le_of_ble_eq_true rfl⟩ ⟨Nat.le_of_ble_eq_true rfl, Nat.le_of_ble_eq_true rfl⟩) hM (fun H locs b98 hM => ?_) (fun H locs b98 hM => ?_)
                  · rw [(show kc 1007 = ka 1007 by rw [ekc, up2_a _ _ _ (by decide), eka_34, up2_a _ _ _ (by decide), ekb, up2_a _ _ _ (by decide)])] at b98
                    refine lv_if_eq (tgt := 117) hx hb dX3_go_101 (by decide) (fun cZ => absurd cZ (by decide)) (fun c101 => ?_)
                    refine lv_aload_n hx hb dX3_go_104 rfl (lv_at hl 0 rfl) ?_
                    refine lv_dup hx hb dX3_go_105 rfl ?_
                    refine r_geti B hM 9 hL.1 rfl (by decide) rfl rfl q1391 dX3_go_106 ?_
                    refine r_topv (v := nI e) (by rw [ekc, up2_s]) ?_
                    refine lv_iconst (v := 1) hx hb dX3_go_109 (by decide) ?_
                    refine lv_iadd hx hb dX3_go_110 ?_
                    refine r_puti B hM 9 hL.1 rfl (by decide) rfl rfl q1391 dX3_go_111 (fun ka_52 H locs eka_52 hM => ?_)
                    refine lv_goto (tgt := 93) hx hb dX3_go_114 (by decide) ?_
                    exact ih_loop1 (e + 1) ka_52 (by omega) (by omega) (by omega) ((lend_s b98).trans hle) hlt (by rw [eka_52, ekc, nI_1, up2_up2]) _ _ _ (lv_sub hl [0, 1] rfl) hM
                  · rw [(show kc 1007 = ka 1007 by rw [ekc, up2_a _ _ _ (by decide), eka_34, up2_a _ _ _ (by decide), ekb, up2_a _ _ _ (by decide)])] at b98
                    refine lv_if_eq (tgt := 117) hx hb dX3_go_101 (by decide) (fun c101 => ?_) (fun cZ => absurd (by decide) cZ)
                    refine lv_aload_n hx hb dX3_go_117 rfl (lv_at hl 0 rfl) ?_
                    refine lv_iload_n hx hb dX3_go_118 rfl (lv_at hl 1 rfl) ?_
                    refine lv_if_eq (tgt := 126) hx hb dX3_go_119 (by decide) (fun cZ => absurd cZ (by decide)) (fun c119 => ?_)
                    refine lv_iconst (v := 4) hx hb dX3_go_122 (by decide) ?_
                    refine lv_goto (tgt := 127) hx hb dX3_go_123 (by decide) ?_
                    refine r_puti B hM 11 hL.1 rfl (by decide) rfl rfl q1393 dX3_go_127 (fun ka_53 H locs eka_53 hM => ?_)
                    refine lv_aload_n hx hb dX3_go_130 rfl (lv_at hl 0 rfl) ?_
                    refine lv_aload_n hx hb dX3_go_131 rfl (lv_at hl 0 rfl) ?_
                    refine r_getq B hM 7 hL.1 rfl (by decide) rfl rfl (hL.2 7 _ _ rfl).1 q1389 dX3_go_132 ?_
                    refine lv_aload_n hx hb dX3_go_135 rfl (lv_at hl 0 rfl) ?_
                    refine r_geti B hM 10 hL.1 rfl (by decide) rfl rfl q1392 dX3_go_136 ?_
                    refine r_topv (v := nI i) (by rw [eka_53, up2_i _ _ _ _ (by decide), ekc, up2_i _ _ _ _ (by decide), eka_34, up2_s]) ?_
                    refine r_ild B hM i (hL.2 7 _ _ rfl).2 rfl (by omega) (by decide) dX3_go_139 ?_
                    refine r_topv (v := ka 1007 i) (by rw [eka_53, up2_a _ _ _ (by decide), ekc, up2_a _ _ _ (by decide), eka_34, up2_a _ _ _ (by decide), ekb, up2_a _ _ _ (by decide)]) ?_
                    refine r_puti B hM 12 hL.1 rfl (by decide) rfl rfl q1394 dX3_go_140 (fun ka_54 H locs eka_54 hM => ?_)
                    refine lv_aload_n hx hb dX3_go_143 rfl (lv_at hl 0 rfl) ?_
                    refine lv_aload_n hx hb dX3_go_144 rfl (lv_at hl 0 rfl) ?_
                    refine r_geti B hM 9 hL.1 rfl (by decide) rfl rfl q1391 dX3_go_145 ?_
                    refine r_topv (v := nI e) (by rw [eka_54, up2_i _ _ _ _ (by decide), eka_53, up2_i _ _ _ _ (by decide), ekc, up2_s]) ?_
                    refine r_puti B hM 13 hL.1 rfl (by decide) rfl rfl q1395 dX3_go_148 (fun ka_55 H locs eka_55 hM => ?_)
                    refine lv_goto (tgt := 303) hx hb dX3_go_151 (by decide) ?_
                    refine r_vret B hr hM dX3_go_303 ?_
                    rw [goF_at hn hx9 (by omega) (by omega) hA, goG]
                    have hee : e = lend (ka 1007) n i := by rw [← hle]; exact (lend_e b98).symm
                    rw [if_neg n71, if_pos hlt, ← hee, if_pos c54]
                    rw [eka_55, eka_54, eka_53, ekc, eka_34, ekb]
                    simp only [up2_w1, up2_w2, up1_s, up1_up1, nI_1]
                    all_goals (congr 1; funext k; simp only [rw1, va_up]; grind)
              have loop2 : ∀ (fu_loop2 : Nat) (e : Nat) (v : Int32) (kz : Ka) (kc : Ka), n - e < fu_loop2 → (i ≤ e) → (e ≤ n) → (fgT (ka 1007) n i (n - e) e v = fend (ka 1007) n i) → (¬ ltr (ka 1007) n i) → (fig (ka 1007) n i) → (kz = up2 ka_34 1099 12 v) → (kc = up2 kz 1099 9 (nI e)) → ∀ (ls : Array Slot) (H : Heap) (locs : List Loc), lv_has ls 2 [(0, .ref y0), (1, .int 1)] → Md G th rh ph kc H locs → W p_ l e_ (RM 2 0 0) s_ m_ ([.ref y0].toArray) below_ meth_ c_ H locs 0 0 (MQ below_ (Qv G th rh ph (fun ka' => ka' = up1 ka 1099 (goF (ka 1007) (ka 1099)))) ([.ref y0].toArray) s_ 0 0 (frG G)) (F0 m_ 170 ls []) := by
                intro fu_loop2
                induction fu_loop2 with
                | zero => intro e v kz kc hfu; exact absurd hfu (Nat.not_lt_zero _)
                | succ fu_loop2 ih_loop2 =>
                  intro e v kz kc hfu_loop2 hie hen hfe hnl hfg ekz ekc ls H locs hl hM
                  refine lv_aload_n hx hb dX3_go_170 rfl (lv_at hl 0 rfl) ?_
                  refine lv_aload_n hx hb dX3_go_171 rfl (lv_at hl 0 rfl) ?_
                  refine r_geti B hM 9 hL.1 rfl (by decide) rfl rfl q1391 dX3_go_172 ?_
                  refine r_topv (v := nI e) (by rw [ekc, up2_s]) ?_
                  refine k_pb (r_V (As := [.int (nI e)]) (rest := []) B hM hL.1 rfl rfl (ok_isFigure hL hn96 (n := n) ((show kc 1099 8 = ka 1099 8 from (by rw [ekc, up2_i _ _ _ _ (by decide), ekz, up2_i _ _ _ _ (by decide), eka_34, up2_i _ _ _ _ (by decide), ekb, up2_i _ _ _ _ (by decide)])).trans hn) (k := e) (by omega)) cal_X3_isFigure q1749 rfl hl.1 (Nat.le_of_ble_eq_true rfl) dX3_go_175 ⟨Nat.le_of_ble_eq_true rfl, Nat.le_of_ble_eq_true rfl⟩ ⟨Nat.le_of_ble_eq_true rfl, Nat.le_of_ble_eq_true rfl⟩) hM (fun H locs b175 hM => ?_) (fun H locs b175 hM => ?_)
                  · rw [(show kc 1007 = ka 1007 by rw [ekc, up2_a _ _ _ (by decide), ekz, up2_a _ _ _ (by decide), eka_34, up2_a _ _ _ (by decide), ekb, up2_a _ _ _ (by decide)])] at b175
                    refine lv_if_eq (tgt := 238) hx hb dX3_go_178 (by decide) (fun cZ => absurd cZ (by decide)) (fun c178 => ?_)
                    refine lv_aload_n hx hb dX3_go_181 rfl (lv_at hl 0 rfl) ?_
                    refine lv_aload_n hx hb dX3_go_182 rfl (lv_at hl 0 rfl) ?_
                    refine r_geti B hM 9 hL.1 rfl (by decide) rfl rfl q1391 dX3_go_183 ?_
                    refine r_topv (v := nI e) (by rw [ekc, up2_s]) ?_
                    refine lv_aload_n hx hb dX3_go_186 rfl (lv_at hl 0 rfl) ?_
                    refine r_geti B hM 10 hL.1 rfl (by decide) rfl rfl q1392 dX3_go_187 ?_
                    refine r_topv (v := nI i) (by rw [ekc, up2_i _ _ _ _ (by decide), ekz, up2_i _ _ _ _ (by decide), eka_34, up2_s]) ?_
                    refine lv_isub hx hb dX3_go_190 ?_
                    refine r_topv (v := nI (e - i)) (nI_subN (by omega)) ?_
                    refine lv_iconst (v := 4) hx hb dX3_go_191 (by decide) ?_
                    refine lv_icmp_ge (tgt := 218) hx hb dX3_go_192 (by decide) (fun c192 => ?_) (fun c192 => ?_)
                    · have n192 : 4 ≤ e - i := ntLe rfl rfl (by omega) (by omega) c192
                      refine lv_aload_n hx hb dX3_go_218 rfl (lv_at hl 0 rfl) ?_
                      refine r_geti B hM 12 hL.1 rfl (by decide) rfl rfl q1394 dX3_go_219 ?_
                      refine r_topv (v := v) (by rw [ekc, up2_i _ _ _ _ (by decide), ekz, up2_s]) ?_
                      refine r_puti B hM 12 hL.1 rfl (by decide) rfl rfl q1394 dX3_go_222 (fun ka_56 H locs eka_56 hM => ?_)
                      refine lv_aload_n hx hb dX3_go_225 rfl (lv_at hl 0 rfl) ?_
                      refine lv_dup hx hb dX3_go_226 rfl ?_
                      refine r_geti B hM 9 hL.1 rfl (by decide) rfl rfl q1391 dX3_go_227 ?_
                      refine r_topv (v := nI e) (by rw [eka_56, up2_i _ _ _ _ (by decide), ekc, up2_s]) ?_
                      refine lv_iconst (v := 1) hx hb dX3_go_230 (by decide) ?_
                      refine lv_iadd hx hb dX3_go_231 ?_
                      refine r_puti B hM 9 hL.1 rfl (by decide) rfl rfl q1391 dX3_go_232 (fun ka_57 H locs eka_57 hM => ?_)
                      refine lv_goto (tgt := 170) hx hb dX3_go_235 (by decide) ?_
                      exact ih_loop2 (e + 1) v (up2 ka_34 1099 12 v) ka_57 (by omega) (by omega) (by omega) (by rw [← hfe, ← fgT_s b175, if_neg (by omega)]) hnl hfg rfl (by rw [eka_57, eka_56, ekc, ekz, nI_1]; exact fg_kb) _ _ _ (lv_sub hl [0, 1] rfl) hM
                    · have n192 : e - i < 4 := ntNle rfl rfl (by omega) (by omega) c192
                      refine lv_bipush (v := 10) hx hb dX3_go_195 (by decide) ?_
                      refine lv_aload_n hx hb dX3_go_197 rfl (lv_at hl 0 rfl) ?_
                      refine r_geti B hM 12 hL.1 rfl (by decide) rfl rfl q1394 dX3_go_198 ?_
                      refine r_topv (v := v) (by rw [ekc, up2_i _ _ _ _ (by decide), ekz, up2_s]) ?_
                      refine lv_imul hx hb dX3_go_201 ?_
                      refine lv_aload_n hx hb dX3_go_202 rfl (lv_at hl 0 rfl) ?_
                      refine r_getq B hM 7 hL.1 rfl (by decide) rfl rfl (hL.2 7 _ _ rfl).1 q1389 dX3_go_203 ?_
                      refine lv_aload_n hx hb dX3_go_206 rfl (lv_at hl 0 rfl) ?_
                      refine r_geti B hM 9 hL.1 rfl (by decide) rfl rfl q1391 dX3_go_207 ?_
                      refine r_topv (v := nI e) (by rw [ekc, up2_s]) ?_
                      refine r_ild B hM e (hL.2 7 _ _ rfl).2 rfl (by omega) (by decide) dX3_go_210 ?_
                      refine r_topv (v := ka 1007 e) (by rw [ekc, up2_a _ _ _ (by decide), ekz, up2_a _ _ _ (by decide), eka_34, up2_a _ _ _ (by decide), ekb, up2_a _ _ _ (by decide)]) ?_
                      refine lv_iadd hx hb dX3_go_211 ?_
                      refine lv_bipush (v := 48) hx hb dX3_go_212 (by decide) ?_
                      refine lv_isub hx hb dX3_go_214 ?_
                      refine lv_goto (tgt := 222) hx hb dX3_go_215 (by decide) ?_
                      refine r_puti B hM 12 hL.1 rfl (by decide) rfl rfl q1394 dX3_go_222 (fun ka_58 H locs eka_58 hM => ?_)
                      refine lv_aload_n hx hb dX3_go_225 rfl (lv_at hl 0 rfl) ?_
                      refine lv_dup hx hb dX3_go_226 rfl ?_
                      refine r_geti B hM 9 hL.1 rfl (by decide) rfl rfl q1391 dX3_go_227 ?_
                      refine r_topv (v := nI e) (by rw [eka_58, up2_i _ _ _ _ (by decide), ekc, up2_s]) ?_
                      refine lv_iconst (v := 1) hx hb dX3_go_230 (by decide) ?_
                      refine lv_iadd hx hb dX3_go_231 ?_
                      refine r_puti B hM 9 hL.1 rfl (by decide) rfl rfl q1391 dX3_go_232 (fun ka_59 H locs eka_59 hM => ?_)
                      refine lv_goto (tgt := 170) hx hb dX3_go_235 (by decide) ?_
                      exact ih_loop2 (e + 1) ((((10 : Int32) * v) + (ka 1007 e)) - 48) (up2 ka_34 1099 12 ((((10 : Int32) * v) + (ka 1007 e)) - 48)) ka_59 (by omega) (by omega) (by omega) (by rw [← hfe, ← fgT_s b175, if_pos (by omega)]) hnl hfg rfl (by rw [eka_59, eka_58, ekc, ekz, nI_1]; exact fg_kb) _ _ _ (lv_sub hl [0, 1] rfl) hM
                  · rw [(show kc 1007 = ka 1007 by rw [ekc, up2_a _ _ _ (by decide), ekz, up2_a _ _ _ (by decide), eka_34, up2_a _ _ _ (by decide), ekb, up2_a _ _ _ (by decide)])] at b175
                    refine lv_if_eq (tgt := 238) hx hb dX3_go_178 (by decide) (fun c178 => ?_) (fun cZ => absurd (by decide) cZ)
                    refine lv_aload_n hx hb dX3_go_238 rfl (lv_at hl 0 rfl) ?_
                    refine lv_iload_n hx hb dX3_go_239 rfl (lv_at hl 1 rfl) ?_
                    refine lv_if_ne (tgt := 256) hx hb dX3_go_240 (by decide) (fun c240 => ?_) (fun cZ => absurd cZ (by decide))
                    refine lv_iconst (v := 4) hx hb dX3_go_256 (by decide) ?_
                    refine lv_goto (tgt := 261) hx hb dX3_go_257 (by decide) ?_
                    refine r_puti B hM 11 hL.1 rfl (by decide) rfl rfl q1393 dX3_go_261 (fun ka_60 H locs eka_60 hM => ?_)
                    refine lv_aload_n hx hb dX3_go_264 rfl (lv_at hl 0 rfl) ?_
                    refine lv_aload_n hx hb dX3_go_265 rfl (lv_at hl 0 rfl) ?_
                    refine r_geti B hM 9 hL.1 rfl (by decide) rfl rfl q1391 dX3_go_266 ?_
                    refine r_topv (v := nI e) (by rw [eka_60, up2_i _ _ _ _ (by decide), ekc, up2_s]) ?_
                    refine r_puti B hM 13 hL.1 rfl (by decide) rfl rfl q1395 dX3_go_269 (fun ka_61 H locs eka_61 hM => ?_)
                    refine lv_goto (tgt := 303) hx hb dX3_go_272 (by decide) ?_
                    refine r_vret B hr hM dX3_go_303 ?_
                    rw [goF_at hn hx9 (by omega) (by omega) hA, goG]
                    have hee : fend (ka 1007) n i = (e, v) := by rw [← hfe]; exact fgT_e b175
                    rw [if_neg n71, if_neg hnl, if_pos hfg, hee]; dsimp only
                    rw [if_pos (Or.inl c54)]
                    rw [eka_61, eka_60, ekc, ekz, eka_34, ekb]
                    simp only [up2_w1, up2_w2, up1_s, up1_up1, nI_1]
                    all_goals (congr 1; funext k; simp only [rw1, va_up]; grind)
              refine lv_aload_n hx hb dX3_go_82 rfl (lv_at hl 1 rfl) ?_
              refine lv_aload_n hx hb dX3_go_83 rfl (lv_at hl 1 rfl) ?_
              refine r_geti B hM 10 hL.1 rfl (by decide) rfl rfl q1392 dX3_go_84 ?_
              refine r_topv (v := nI i) (by rw [eka_34, up2_s]) ?_
              refine k_pb (r_V (As := [.int (nI i)]) (rest := []) B hM hL.1 rfl rfl (ok_isLetter hL hn96 (n := n) ((show ka_34 1099 8 = ka 1099 8 from (by rw [eka_34, up2_i _ _ _ _ (by decide), ekb, up2_i _ _ _ _ (by decide)])).trans hn) (k := i) (by omega)) cal_X3_isLetter q1745 rfl hl.1 (Nat.le_of_ble_eq_true rfl) dX3_go_87 ⟨Nat.le_of_ble_eq_true rfl, Nat.le_of_ble_eq_true rfl⟩ ⟨Nat.le_of_ble_eq_true rfl, Nat.le_of_ble_eq_true rfl⟩) hM (fun H locs b87 hM => ?_) (fun H locs b87 hM => ?_)
              · rw [(show ka_34 1007 = ka 1007 by rw [eka_34, up2_a _ _ _ (by decide), ekb, up2_a _ _ _ (by decide)])] at b87
                refine lv_if_eq (tgt := 154) hx hb dX3_go_90 (by decide) (fun cZ => absurd cZ (by decide)) (fun c90 => ?_)
                exact loop1 (n + 1) i ka_34 (by omega) (Nat.le_refl _) hi rfl b87 (up2_self (by rw [eka_34, up2_i _ _ _ _ (by decide), ekb, up2_s])) _ _ _ (lv_sub hl [1, 0] rfl) hM
              · rw [(show ka_34 1007 = ka 1007 by rw [eka_34, up2_a _ _ _ (by decide), ekb, up2_a _ _ _ (by decide)])] at b87
                refine lv_if_eq (tgt := 154) hx hb dX3_go_90 (by decide) (fun c90 => ?_) (fun cZ => absurd (by decide) cZ)
                refine lv_aload_n hx hb dX3_go_154 rfl (lv_at hl 1 rfl) ?_
                refine lv_aload_n hx hb dX3_go_155 rfl (lv_at hl 1 rfl) ?_
                refine r_geti B hM 10 hL.1 rfl (by decide) rfl rfl q1392 dX3_go_156 ?_
                refine r_topv (v := nI i) (by rw [eka_34, up2_s]) ?_
                refine k_pb (r_V (As := [.int (nI i)]) (rest := []) B hM hL.1 rfl rfl (ok_isFigure hL hn96 (n := n) ((show ka_34 1099 8 = ka 1099 8 from (by rw [eka_34, up2_i _ _ _ _ (by decide), ekb, up2_i _ _ _ _ (by decide)])).trans hn) (k := i) (by omega)) cal_X3_isFigure q1749 rfl hl.1 (Nat.le_of_ble_eq_true rfl) dX3_go_159 ⟨Nat.le_of_ble_eq_true rfl, Nat.le_of_ble_eq_true rfl⟩ ⟨Nat.le_of_ble_eq_true rfl, Nat.le_of_ble_eq_true rfl⟩) hM (fun H locs b159 hM => ?_) (fun H locs b159 hM => ?_)
                · rw [(show ka_34 1007 = ka 1007 by rw [eka_34, up2_a _ _ _ (by decide), ekb, up2_a _ _ _ (by decide)])] at b159
                  refine lv_if_eq (tgt := 275) hx hb dX3_go_162 (by decide) (fun cZ => absurd cZ (by decide)) (fun c162 => ?_)
                  refine lv_aload_n hx hb dX3_go_165 rfl (lv_at hl 1 rfl) ?_
                  refine lv_iconst (v := 0) hx hb dX3_go_166 (by decide) ?_
                  refine r_puti B hM 12 hL.1 rfl (by decide) rfl rfl q1394 dX3_go_167 (fun ka_62 H locs eka_62 hM => ?_)
                  exact loop2 (n + 1) i 0 ka_62 ka_62 (by omega) (Nat.le_refl _) hi rfl b87 b159 eka_62 (up2_self (by rw [eka_62, up2_i _ _ _ _ (by decide), eka_34, up2_i _ _ _ _ (by decide), ekb, up2_s])) _ _ _ (lv_sub hl [1, 0] rfl) hM
                · rw [(show ka_34 1007 = ka 1007 by rw [eka_34, up2_a _ _ _ (by decide), ekb, up2_a _ _ _ (by decide)])] at b159
                  refine lv_if_eq (tgt := 275) hx hb dX3_go_162 (by decide) (fun c162 => ?_) (fun cZ => absurd (by decide) cZ)
                  refine lv_aload_n hx hb dX3_go_275 rfl (lv_at hl 1 rfl) ?_
                  refine lv_iconst (v := 3) hx hb dX3_go_276 (by decide) ?_
                  refine r_puti B hM 11 hL.1 rfl (by decide) rfl rfl q1393 dX3_go_277 (fun ka_63 H locs eka_63 hM => ?_)
                  refine lv_aload_n hx hb dX3_go_280 rfl (lv_at hl 1 rfl) ?_
                  refine lv_aload_n hx hb dX3_go_281 rfl (lv_at hl 1 rfl) ?_
                  refine r_getq B hM 7 hL.1 rfl (by decide) rfl rfl (hL.2 7 _ _ rfl).1 q1389 dX3_go_282 ?_
                  refine lv_aload_n hx hb dX3_go_285 rfl (lv_at hl 1 rfl) ?_
                  refine r_geti B hM 10 hL.1 rfl (by decide) rfl rfl q1392 dX3_go_286 ?_
                  refine r_topv (v := nI i) (by rw [eka_63, up2_i _ _ _ _ (by decide), eka_34, up2_s]) ?_
                  refine r_ild B hM i (hL.2 7 _ _ rfl).2 rfl (by omega) (by decide) dX3_go_289 ?_
                  refine r_topv (v := ka 1007 i) (by rw [eka_63, up2_a _ _ _ (by decide), eka_34, up2_a _ _ _ (by decide), ekb, up2_a _ _ _ (by decide)]) ?_
                  refine r_puti B hM 12 hL.1 rfl (by decide) rfl rfl q1394 dX3_go_290 (fun ka_64 H locs eka_64 hM => ?_)
                  refine lv_aload_n hx hb dX3_go_293 rfl (lv_at hl 1 rfl) ?_
                  refine lv_dup hx hb dX3_go_294 rfl ?_
                  refine r_geti B hM 9 hL.1 rfl (by decide) rfl rfl q1391 dX3_go_295 ?_
                  refine r_topv (v := nI i) (by rw [eka_64, up2_i _ _ _ _ (by decide), eka_63, up2_i _ _ _ _ (by decide), eka_34, up2_i _ _ _ _ (by decide), ekb, up2_s]) ?_
                  refine lv_iconst (v := 1) hx hb dX3_go_298 (by decide) ?_
                  refine lv_iadd hx hb dX3_go_299 ?_
                  refine r_puti B hM 9 hL.1 rfl (by decide) rfl rfl q1391 dX3_go_300 (fun ka_65 H locs eka_65 hM => ?_)
                  refine r_vret B hr hM dX3_go_303 ?_
                  rw [goF_at hn hx9 (by omega) (by omega) hA, goG]
                  rw [if_neg n71, if_neg b87, if_neg b159]
                  rw [eka_65, eka_64, eka_63, eka_34, ekb]
                  simp only [up2_w1, up2_w2, up1_s, up1_up1, nI_1]
                  all_goals (congr 1; funext k; simp only [rw1, va_up]; grind)
            · have n71 : i = n := ntEq rfl (by rw [hn]) (by omega) (by omega) c71
              refine lv_aload_n hx hb dX3_go_74 rfl (lv_at hl 1 rfl) ?_
              refine lv_iconst (v := 0) hx hb dX3_go_75 (by decide) ?_
              refine r_puti B hM 11 hL.1 rfl (by decide) rfl rfl q1393 dX3_go_76 (fun ka_66 H locs eka_66 hM => ?_)
              refine lv_goto (tgt := 303) hx hb dX3_go_79 (by decide) ?_
              refine r_vret B hr hM dX3_go_303 ?_
              rw [goF_at hn hx9 (by omega) (by omega) hA, goG]
              rw [if_pos n71]
              rw [eka_66, eka_34, ekb]
              simp only [up2_w1, up2_w2, up1_s, up1_up1, nI_1]
              all_goals (congr 1; funext k; simp only [rw1, va_up]; grind)
        · refine lv_aload_n hx hb dX3_go_25 rfl (lv_at hl 0 rfl) ?_
          refine lv_dup hx hb dX3_go_26 rfl ?_
          refine r_geti B hM 9 hL.1 rfl (by decide) rfl rfl q1391 dX3_go_27 ?_
          refine r_topv (v := nI i) (by rw [ekb, up2_s]) ?_
          refine lv_iconst (v := 1) hx hb dX3_go_30 (by decide) ?_
          refine lv_iadd hx hb dX3_go_31 ?_
          refine r_puti B hM 9 hL.1 rfl (by decide) rfl rfl q1391 dX3_go_32 (fun ka_67 H locs eka_67 hM => ?_)
          refine lv_goto (tgt := 0) hx hb dX3_go_35 (by decide) ?_
          exact ih_loop0 (i + 1) ka_67 (by omega) (by omega) ((skp_s ⟨n8, c22⟩).trans hsk) (by rw [eka_67, ekb, nI_1, up2_up2]) _ _ _ (lv_sub hl [0] rfl) hM
  exact loop0 (n + 1) x ka (by omega) hxn rfl (up2_self hx9) _ _ _ (lv_sub hl [0] rfl) hM
end
