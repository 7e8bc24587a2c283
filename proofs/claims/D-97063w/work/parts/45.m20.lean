/-! the model: a text -/
set_option maxRecDepth 100000
section
variable {l : Launch} {G : GG} {th : Th} {rh : Rh} {ph : Ph} {ka : Ka} {y0 : Nat} {ay : Nat → Nat}
set_option maxHeartbeats 4000000 in
theorem ok_text (hL : LayM th rh y0 ay) (hS : Sok (sg ka)) (hK : Kok (sg ka)) : Met l yX3_text (ws_ yX3_text cX3_text 4 (some .int)) (RM 6 0 0) (Pc_ G [.ref y0] th rh ph ka) (Qi G th rh ph (fun r ka' => r = A_text (sg ka)  ∧ Rel (S_text (sg ka) ) (sg ka'))) 0 0 (frG G) := by
  refine m_of (by decide) (Nat.le_of_ble_eq_true rfl) ?_
  intro p_ e_ s_ m_ below_ meth_ c_ B hr hnm ls hl hM
  have hx := B.1
  have hb := B.2.1
  have hM := hM
  obtain ⟨n, hn96, hn⟩ := hS.2.2.2.1
  have hn : ka 1099 8 = nI n := hn
  have hcln : cl (ka 1099 8) = n := by rw [hn]; exact cl_nI (by omega)
  have hR := hS.r
  obtain ⟨t, hnx⟩ : ∃ t, nX (ka 1000) = t := ⟨_, rfl⟩
  have ht : ka 1000 6 = nI t := by rw [← hnx]; exact hR.2.2.1.1
  have ht14 : t ≤ 14 := by rw [← hnx]; exact hR.2.2.1.2
  refine lv_aload_n hx hb dX3_text_0 rfl (lv_at hl 0 rfl) ?_
  refine lv_iconst (v := 0) hx hb dX3_text_1 (by decide) ?_
  refine r_puti B hM 9 hL.1 rfl (by decide) rfl rfl q1391 dX3_text_2 (fun ka_1 H locs eka_1 hM => ?_)
  refine lv_aload_n hx hb dX3_text_5 rfl (lv_at hl 0 rfl) ?_
  refine lv_iconst (v := (-1)) hx hb dX3_text_6 (by decide) ?_
  refine r_puti B hM 13 hL.1 rfl (by decide) rfl rfl q1395 dX3_text_7 (fun ka_2 H locs eka_2 hM => ?_)
  refine lv_aload_n hx hb dX3_text_10 rfl (lv_at hl 0 rfl) ?_
  refine k_v (r_V (As := []) (rest := []) B hM hL.1 rfl rfl (ok_go hL hn96 (n := n) (by rw [eka_2, up2_i _ _ _ _ (by decide), eka_1, up2_i _ _ _ _ (by decide)]; exact hn) (x := 0) (Nat.zero_le _) (by rw [eka_2, up2_i _ _ _ _ (by decide), eka_1, up2_s]; rfl)) cal_X3_go q1741 rfl hl.1 (Nat.le_of_ble_eq_true rfl) dX3_text_11 ⟨Nat.le_of_ble_eq_true rfl, Nat.le_of_ble_eq_true rfl⟩ ⟨Nat.le_of_ble_eq_true rfl, Nat.le_of_ble_eq_true rfl⟩) hM (fun ka_3 H locs p_4 hM => ?_)
  have e3 : ka_3 = up1 ka 1099 (txG (sg ka)) := by
    rw [p_4, eka_2, eka_1]
    simp only [up2_w1, up2_w2, up1_s, up1_up1]
    rw [up1_a _ _ (by decide)]
    rfl
  have hg3 : ka_3 1099 = txG (sg ka) := by rw [e3, up1_s]
  obtain ⟨f1, x1, hA1, hA2, hA3, hA4, hA5, hA6⟩ := goF_adv (tp := ka 1007) (g := rw1 (rw1 (ka 1099) 9 0) 13 (-1)) (n := n) (x := 0) hn96 (by rw [rw1_n _ (by decide), rw1_n _ (by decide)]; exact hn) (by rw [rw1_n _ (by decide), rw1_s]; rfl) (Nat.zero_le _)
  have hA1 : txG (sg ka) 10 = nI f1 := hA1
  have hA2 : txG (sg ka) 9 = nI x1 := hA2
  have hcf : cl (txG (sg ka) 10) = f1 := by rw [hA1]; exact cl_nI (by omega)
  have hcx : cl (txG (sg ka) 9) = x1 := by rw [hA2]; exact cl_nI (by omega)
  have hk3 : ∀ j, j < 9 ∨ 13 < j → txG (sg ka) j = ka 1099 j := fun j hj => by unfold txG; rw [goF_keep hj, rw1_n _ (by omega), rw1_n _ (by omega)]; rfl
  have hb3 : But [1017, 1020, 1022, 1099] ka ka_3 := by rw [e3]; exact fun a ha => up1_a _ _ (fun z => ha (by rw [z]; decide))
  refine lv_aload_n hx hb dX3_text_14 rfl (lv_at hl 0 rfl) ?_
  refine k_i (r_V (As := []) (rest := []) B hM hL.1 rfl rfl (ok_takesKey hL (ka := ka_3) (by rw [e3, sg_up1 _ 99]; exact ⟨fun i hi => by rw [up1_a _ _ (by decide)]; exact hK.1 i hi, fun w hw => by rw [up1_a _ _ (by decide)]; exact hK.2 w hw⟩) hn96 (n := n) (by rw [hg3, hk3 8 (by decide)]; exact hn) (x := x1) (f := f1) hA5 hA4 (by rw [hg3]; exact hA2) (by rw [hg3]; exact hA1)) cal_X3_takesKey q1753 rfl hl.1 (Nat.le_of_ble_eq_true rfl) dX3_text_15 ⟨Nat.le_of_ble_eq_true rfl, Nat.le_of_ble_eq_true rfl⟩ ⟨Nat.le_of_ble_eq_true rfl, Nat.le_of_ble_eq_true rfl⟩) hM (fun r_5 ka_6 H locs p_7 hM => ?_)
  rcases p_7 with ⟨rfl, hno, hke⟩ | ⟨rfl, htok, w, hw3, hkw, e4⟩
  · rw [hg3] at hno
    rw [e3, up1_a _ _ (by decide)] at hno
    have hA : txT (sg ka) = .inr (ka_6 1099 10) := by
      unfold txT
      rw [show keyT (sg ka 7) (txG (sg ka)) = none from keyT_none (by rw [hcf, hcx]; exact hno), hke, hg3]
    have hb5 : But [1017, 1020, 1022, 1099] ka ka_6 := by rw [hke]; exact hb3
    have hf5 : ∀ j, j < 9 ∨ 21 < j → ka_6 1099 j = ka 1099 j := fun j hj => by rw [hke, hg3]; exact hk3 j (by omega)
    refine lv_if_eq (tgt := 32) hx hb dX3_text_18 (by decide) (fun c18 => ?_) (fun cZ => absurd (by decide) cZ)
    refine lv_iconst (v := 0) hx hb dX3_text_32 (by decide) ?_
    refine lv_istore_n (lv' := [(1, .int 0), (0, .ref y0)]) hx hb dX3_text_33 rfl hl (by decide) rfl (fun ls hl => ?_)
    refine lv_aload_n hx hb dX3_text_34 rfl (lv_at hl 1 rfl) ?_
    refine lv_iconst (v := 0) hx hb dX3_text_35 (by decide) ?_
    refine r_puti B hM 8 hL.1 rfl (by decide) rfl rfl q1390 dX3_text_36 (fun ka_8 H locs eka_8 hM => ?_)
    have hb6 : But [1017, 1020, 1022, 1099] ka ka_8 := But.trans hb5 (by rw [eka_8]; exact But.up (by decide))
    have hf6 : ∀ j, j ≠ 8 → ka_8 1099 j = ka_6 1099 j := fun j hj => by rw [eka_8, up2_i _ _ _ _ hj]
    have h86 : ka_8 1099 8 = 0 := by rw [eka_8, up2_s]
    refine lv_iload_n hx hb dX3_text_39 rfl (lv_at hl 0 rfl) ?_
    refine lv_if_ne (tgt := 51) hx hb dX3_text_40 (by decide) (fun cZ => absurd (by decide) cZ) (fun c40 => ?_)
    refine lv_bipush (v := (-100)) hx hb dX3_text_43 (by decide) ?_
    refine lv_aload_n hx hb dX3_text_45 rfl (lv_at hl 1 rfl) ?_
    refine r_geti B hM 10 hL.1 rfl (by decide) rfl rfl q1392 dX3_text_46 ?_
    refine r_topv (v := ka_6 1099 10) (hf6 10 (by decide)) ?_
    refine lv_isub hx hb dX3_text_49 ?_
    refine r_iret B hr hM dX3_text_50 ?_
    constructor
    · show _ = A_text (sg ka); unfold A_text; rw [hA]
    · show Rel (S_text (sg ka)) _; unfold S_text; rw [hA]; exact Rel.txt hb6 (by decide) ((hf6 3 (by decide)).trans (hf5 3 (by decide))) ((hf6 34 (by decide)).trans (hf5 34 (by decide))) h86
  · rw [hg3] at htok e4
    rw [e3, up1_a _ _ (by decide)] at hkw
    rw [e3, up1_a _ _ (by decide), up1_up1] at e4
    have hke : keyT (sg ka 7) (txG (sg ka)) = some w := keyT_some htok hw3 (by rw [hcf, hcx]; exact hkw)
    have hg4 : ka_6 1099 = goF (ka 1007) (rw1 (txG (sg ka)) 14 (nI w)) := by rw [e4, up1_s]
    have h47 : ka_6 1007 = ka 1007 := by rw [e4, up1_a _ _ (by decide)]
    have hb4 : But [1017, 1020, 1022, 1099] ka ka_6 := by rw [e4]; exact fun a ha => up1_a _ _ (fun z => ha (by rw [z]; decide))
    obtain ⟨f2, x2, hB1, hB2, hB3, hB4, hB5, hB6⟩ := goF_adv (tp := ka 1007) (g := rw1 (txG (sg ka)) 14 (nI w)) (n := n) (x := x1) hn96 (by rw [rw1_n _ (by decide), hk3 8 (by decide)]; exact hn) (by rw [rw1_n _ (by decide)]; exact hA2) hA5
    have hx1 : 1 ≤ x1 := by have h1 := hkw.1; have h2 := kA_le hw3; omega
    refine lv_if_eq (tgt := 32) hx hb dX3_text_18 (by decide) (fun cZ => absurd cZ (by decide)) (fun c18 => ?_)
    refine lv_aload_n hx hb dX3_text_21 rfl (lv_at hl 0 rfl) ?_
    refine k_i (r_V (As := []) (rest := []) B hM hL.1 rfl rfl (ok_takesE hL (ka := ka_6) (R := txM (sg ka) w) hn96 (n := n) (by rw [hg4, goF_keep (by decide), rw1_n _ (by decide), hk3 8 (by decide)]; exact hn) (x0 := x2) (f0 := f2) hB4 hB5 (by rw [hg4]; exact hB2) (by rw [hg4]; exact hB1) (by omega) (by rw [hg4]; exact hB6) (by rw [hg4, h47]; unfold txM; rw [show cl (sg ka 99 8) = n from hcln]; rfl)) cal_X3_takesE q1757 rfl hl.1 (Nat.le_of_ble_eq_true rfl) dX3_text_22 ⟨Nat.le_of_ble_eq_true rfl, Nat.le_of_ble_eq_true rfl⟩ ⟨Nat.le_of_ble_eq_true rfl, Nat.le_of_ble_eq_true rfl⟩) hM (fun r_9 ka_10 H locs p_11 hM => ?_)
    obtain ⟨hq1, hq2, hq⟩ := p_11; rcases hq with ⟨rfl, gz, Z, a, hgz, hZ96, hZl, ha, hZs⟩ | ⟨rfl, gz, hgz⟩
    · have hb5 : But [1017, 1020, 1022, 1099] ka ka_10 := But.trans hb4 hq1
      have hRk : ∀ j, j < 9 ∨ 14 < j → (txM (sg ka) w).g j = ka 1099 j := fun j hj => by
        unfold txM
        rw [runM_keep (by omega)]
        show goF (sg ka 7) (rw1 (txG (sg ka)) 14 (nI w)) j = _
        rw [goF_keep (by omega), rw1_n _ (by omega)]
        exact hk3 j (by omega)
      have hf5 : ∀ j, j < 9 ∨ 21 < j → ka_10 1099 j = ka 1099 j := fun j hj => by rw [hq2 j (by omega) (by omega) (by omega)]; exact hRk j (by omega)
      have hA : txT (sg ka) = .inl (w, Z, a) := by
        unfold txT
        rw [hke]
        simp only []
        rw [hgz]
      have h14 : ka_10 1099 14 = nI w := by
        rw [hq2 14 (by decide) (by decide) (by decide)]
        unfold txM
        rw [runM_keep (by omega)]
        show goF (sg ka 7) (rw1 (txG (sg ka)) 14 (nI w)) 14 = _
        rw [goF_keep (by omega), rw1_s]
      refine lv_if_eq (tgt := 32) hx hb dX3_text_25 (by decide) (fun cZ => absurd cZ (by decide)) (fun c25 => ?_)
      refine lv_iconst (v := 1) hx hb dX3_text_28 (by decide) ?_
      refine lv_goto (tgt := 33) hx hb dX3_text_29 (by decide) ?_
      refine lv_istore_n (lv' := [(1, .int 1), (0, .ref y0)]) hx hb dX3_text_33 rfl hl (by decide) rfl (fun ls hl => ?_)
      refine lv_aload_n hx hb dX3_text_34 rfl (lv_at hl 1 rfl) ?_
      refine lv_iconst (v := 0) hx hb dX3_text_35 (by decide) ?_
      refine r_puti B hM 8 hL.1 rfl (by decide) rfl rfl q1390 dX3_text_36 (fun ka_12 H locs eka_12 hM => ?_)
      have hb6 : But [1017, 1020, 1022, 1099] ka ka_12 := But.trans hb5 (by rw [eka_12]; exact But.up (by decide))
      have hf6 : ∀ j, j ≠ 8 → ka_12 1099 j = ka_10 1099 j := fun j hj => by rw [eka_12, up2_i _ _ _ _ hj]
      have h86 : ka_12 1099 8 = 0 := by rw [eka_12, up2_s]
      refine lv_iload_n hx hb dX3_text_39 rfl (lv_at hl 0 rfl) ?_
      refine lv_if_ne (tgt := 51) hx hb dX3_text_40 (by decide) (fun c40 => ?_) (fun cZ => absurd cZ (by decide))
      refine lv_aload_n hx hb dX3_text_51 rfl (lv_at hl 1 rfl) ?_
      refine r_getq B hM 0 hL.1 rfl (by decide) rfl rfl (hL.2 0 _ _ rfl).1 q1382 dX3_text_52 ?_
      refine lv_bipush (v := 6) hx hb dX3_text_55 (by decide) ?_
      refine r_ild B hM 6 (hL.2 0 _ _ rfl).2 rfl (by decide) (by decide) dX3_text_57 ?_
      refine r_topv (v := ka 1000 6) (congrFun (hb6 1000 (by decide)) _) ?_
      refine lv_bipush (v := 14) hx hb dX3_text_58 (by decide) ?_
      refine lv_icmp_ne (tgt := 66) hx hb dX3_text_60 (by decide) (fun c60 => ?_) (fun c60 => ?_)
      · have n60 : t ≠ 14 := ntNe (by rw [ht]) rfl (by omega) (by omega) c60
        refine lv_aload_n hx hb dX3_text_66 rfl (lv_at hl 1 rfl) ?_
        refine r_getq B hM 0 hL.1 rfl (by decide) rfl rfl (hL.2 0 _ _ rfl).1 q1382 dX3_text_67 ?_
        refine lv_bipush (v := 6) hx hb dX3_text_70 (by decide) ?_
        refine r_ild B hM 6 (hL.2 0 _ _ rfl).2 rfl (by decide) (by decide) dX3_text_72 ?_
        refine r_topv (v := ka 1000 6) (congrFun (hb6 1000 (by decide)) _) ?_
        refine r_topv (v := nI t) ht ?_
        refine lv_istore_n (lv' := [(2, .int (nI t)), (1, .int 1), (0, .ref y0)]) hx hb dX3_text_73 rfl hl (by decide) rfl (fun ls hl => ?_)
        have loop : ∀ (fu_loop : Nat) (i : Nat) (kb : Ka), Z.length - i < fu_loop → (i ≤ Z.length) → (∀ j, kb 1000 j = if 135 + 96 * t ≤ j ∧ j < 135 + 96 * t + i then Z.reverse.getD (j - (135 + 96 * t)) 0 else rw1 (rw1 (ka 1000) (107 + 2 * t) (1000 * nI w + nI Z.length)) (107 + 2 * t + 1) a j) → (But [1000] ka_12 kb) → ∀ (ls : Array Slot) (H : Heap) (locs : List Loc), lv_has ls 4 [(0, .ref y0), (1, .int 1), (2, .int (nI t)), (3, .int (nI i))] → Md G th rh ph kb H locs → W p_ l e_ (RM 6 0 0) s_ m_ ([.ref y0].toArray) below_ meth_ c_ H locs 0 0 (MQ below_ (Qi G th rh ph (fun r ka' => r = A_text (sg ka)  ∧ Rel (S_text (sg ka) ) (sg ka'))) ([.ref y0].toArray) s_ 0 0 (frG G)) (F0 m_ 117 ls []) := by
          intro fu_loop
          induction fu_loop with
          | zero => intro i kb hfu; exact absurd hfu (Nat.not_lt_zero _)
          | succ fu_loop ih_loop =>
            intro i kb hfu_loop hi hrow hbu ls H locs hl hM
            refine lv_iload_n hx hb dX3_text_117 rfl (lv_at hl 3 rfl) ?_
            refine lv_aload_n hx hb dX3_text_118 rfl (lv_at hl 0 rfl) ?_
            refine r_geti B hM 18 hL.1 rfl (by decide) rfl rfl q1400 dX3_text_119 ?_
            refine r_topv (v := nI Z.length) ((congrFun (hbu 1099 (by decide)) _).trans ((hf6 18 (by decide)).trans hZl)) ?_
            refine lv_icmp_ge (tgt := 152) hx hb dX3_text_122 (by decide) (fun c122 => ?_) (fun c122 => ?_)
            · have n122 : Z.length ≤ i := ntLe rfl rfl (by omega) (by omega) c122
              refine lv_aload_n hx hb dX3_text_152 rfl (lv_at hl 0 rfl) ?_
              refine r_getq B hM 0 hL.1 rfl (by decide) rfl rfl (hL.2 0 _ _ rfl).1 q1382 dX3_text_153 ?_
              refine lv_bipush (v := 6) hx hb dX3_text_156 (by decide) ?_
              refine lv_dup2_11 hx hb dX3_text_158 rfl rfl ?_
              refine r_ild B hM 6 (hL.2 0 _ _ rfl).2 rfl (by decide) (by decide) dX3_text_159 ?_
              refine r_topv (v := ka 1000 6) ((hrow 6).trans (by rw [if_neg (by omega), rw1_n _ (by omega), rw1_n _ (by omega)])) ?_
              refine lv_iconst (v := 1) hx hb dX3_text_160 (by decide) ?_
              refine lv_iadd hx hb dX3_text_161 ?_
              refine r_ist B hM 6 (hL.2 0 _ _ rfl).2 rfl (by decide) (by decide) dX3_text_162 (fun ka_13 H locs eka_13 hM => ?_)
              refine lv_iload_n hx hb dX3_text_163 rfl (lv_at hl 2 rfl) ?_
              refine r_iret B hr hM dX3_text_164 ?_
              have hiZ : i = Z.length := by omega
              subst hiZ
              have h614 : ¬ sg ka 0 6 = 14 := c60
              constructor
              · show _ = A_text (sg ka); unfold A_text; rw [hA]; simp only []; rw [if_neg h614]; exact ht.symm
              · show Rel (S_text (sg ka)) _; unfold S_text; rw [hA]; simp only []; rw [if_neg h614, show nX (sg ka 0) = t from hnx]
                refine Rel.txt2 (S := [1000, 1017, 1020, 1022, 1099]) ((hb6.mono (by decide)).trans ((hbu.mono (by decide)).trans (by rw [eka_13]; exact But.up (by decide)))) (by decide) ?_ ?_ ?_ ?_
                · rw [eka_13, up2_a _ _ _ (by decide), hbu 1099 (by decide)]; exact ((hf6 3 (by decide)).trans (hf5 3 (by decide)))
                · rw [eka_13, up2_a _ _ _ (by decide), hbu 1099 (by decide)]; exact ((hf6 34 (by decide)).trans (hf5 34 (by decide)))
                · rw [eka_13, up2_a _ _ _ (by decide), hbu 1099 (by decide)]; exact h86
                · rw [eka_13, up2_row, funext hrow]; rfl
            · have n122 : i < Z.length := ntNle rfl rfl (by omega) (by omega) c122
              refine lv_aload_n hx hb dX3_text_125 rfl (lv_at hl 0 rfl) ?_
              refine r_getq B hM 0 hL.1 rfl (by decide) rfl rfl (hL.2 0 _ _ rfl).1 q1382 dX3_text_126 ?_
              refine lv_sipush (v := 135) hx hb dX3_text_129 (by decide) ?_
              refine lv_bipush (v := 96) hx hb dX3_text_132 (by decide) ?_
              refine lv_iload_n hx hb dX3_text_134 rfl (lv_at hl 2 rfl) ?_
              refine lv_imul hx hb dX3_text_135 ?_
              refine lv_iadd hx hb dX3_text_136 ?_
              refine lv_iload_n hx hb dX3_text_137 rfl (lv_at hl 3 rfl) ?_
              refine lv_iadd hx hb dX3_text_138 ?_
              refine lv_aload_n hx hb dX3_text_139 rfl (lv_at hl 0 rfl) ?_
              refine r_getq B hM 17 hL.1 rfl (by decide) rfl rfl (hL.2 17 _ _ rfl).1 q1399 dX3_text_140 ?_
              refine lv_iload_n hx hb dX3_text_143 rfl (lv_at hl 3 rfl) ?_
              refine r_ild B hM i (hL.2 17 _ _ rfl).2 rfl (by omega) (by decide) dX3_text_144 ?_
              refine r_topv (v := Z.reverse.getD i 0) (by rw [hbu 1017 (by decide), eka_12, up2_a _ _ _ (by decide)]; exact Stk_at hZs n122) ?_
              refine r_ist B hM (135 + 96 * t + i) (hL.2 0 _ _ rfl).2 (by simp only [nA, nMu, nL]) (by omega) (by decide) dX3_text_145 (fun ka_14 H locs eka_14 hM => ?_)
              refine lv_iinc (v := nI (i + 1)) (lv' := [(3, .int (nI (i + 1))), (0, .ref y0), (1, .int 1), (2, .int (nI t))]) hx hb dX3_text_146 hl (k := 3) rfl (nI_1 _) (by decide) rfl (fun ls hl => ?_)
              refine lv_goto (tgt := 117) hx hb dX3_text_149 (by decide) ?_
              exact ih_loop (i + 1) ka_14 (by omega) (by omega) (seg_step (f := fun q => Z.reverse.getD q 0) eka_14 hrow) (But.trans hbu (by rw [eka_14]; exact But.up (by decide))) _ _ _ (lv_sub hl [1, 2, 3, 0] rfl) hM
        refine lv_aload_n hx hb dX3_text_74 rfl (lv_at hl 2 rfl) ?_
        refine r_getq B hM 0 hL.1 rfl (by decide) rfl rfl (hL.2 0 _ _ rfl).1 q1382 dX3_text_75 ?_
        refine lv_bipush (v := 107) hx hb dX3_text_78 (by decide) ?_
        refine lv_iconst (v := 2) hx hb dX3_text_80 (by decide) ?_
        refine lv_iload_n hx hb dX3_text_81 rfl (lv_at hl 0 rfl) ?_
        refine lv_imul hx hb dX3_text_82 ?_
        refine lv_iadd hx hb dX3_text_83 ?_
        refine lv_sipush (v := 1000) hx hb dX3_text_84 (by decide) ?_
        refine lv_aload_n hx hb dX3_text_87 rfl (lv_at hl 2 rfl) ?_
        refine r_geti B hM 14 hL.1 rfl (by decide) rfl rfl q1396 dX3_text_88 ?_
        refine r_topv (v := nI w) ((congrFun (rfl) _).trans ((hf6 14 (by decide)).trans h14)) ?_
        refine lv_imul hx hb dX3_text_91 ?_
        refine lv_aload_n hx hb dX3_text_92 rfl (lv_at hl 2 rfl) ?_
        refine r_geti B hM 18 hL.1 rfl (by decide) rfl rfl q1400 dX3_text_93 ?_
        refine r_topv (v := nI Z.length) ((hf6 18 (by decide)).trans hZl) ?_
        refine lv_iadd hx hb dX3_text_96 ?_
        refine r_ist B hM (107 + 2 * t) (hL.2 0 _ _ rfl).2 (by simp only [nA, nMu, nL]) (by omega) (by decide) dX3_text_97 (fun ka_15 H locs eka_15 hM => ?_)
        refine lv_aload_n hx hb dX3_text_98 rfl (lv_at hl 2 rfl) ?_
        refine r_getq B hM 0 hL.1 rfl (by decide) rfl rfl (hL.2 0 _ _ rfl).1 q1382 dX3_text_99 ?_
        refine lv_bipush (v := 107) hx hb dX3_text_102 (by decide) ?_
        refine lv_iconst (v := 2) hx hb dX3_text_104 (by decide) ?_
        refine lv_iload_n hx hb dX3_text_105 rfl (lv_at hl 0 rfl) ?_
        refine lv_imul hx hb dX3_text_106 ?_
        refine lv_iadd hx hb dX3_text_107 ?_
        refine lv_iconst (v := 1) hx hb dX3_text_108 (by decide) ?_
        refine lv_iadd hx hb dX3_text_109 ?_
        refine lv_aload_n hx hb dX3_text_110 rfl (lv_at hl 2 rfl) ?_
        refine r_geti B hM 19 hL.1 rfl (by decide) rfl rfl q1401 dX3_text_111 ?_
        refine r_topv (v := a) (by rw [eka_15, up2_a _ _ _ (by decide)]; exact (hf6 19 (by decide)).trans ha) ?_
        refine r_ist B hM (107 + 2 * t + 1) (hL.2 0 _ _ rfl).2 (by simp only [nA, nMu, nL]) (by omega) (by decide) dX3_text_114 (fun ka_16 H locs eka_16 hM => ?_)
        refine lv_iconst (v := 0) hx hb dX3_text_115 (by decide) ?_
        refine lv_istore_n (lv' := [(3, .int 0), (2, .int (nI t)), (1, .int 1), (0, .ref y0)]) hx hb dX3_text_116 rfl hl (by decide) rfl (fun ls hl => ?_)
        exact loop (Z.length + 1) 0 ka_16 (by omega) (Nat.zero_le _) (fun j => by rw [if_neg (by omega), eka_16, up2_row, eka_15, up2_row, hb6 1000 (by decide)]; rfl) (But.trans (b := ka_15) (by rw [eka_15]; exact But.up (by decide)) (by rw [eka_16]; exact But.up (by decide))) _ _ _ (lv_sub hl [3, 2, 1, 0] rfl) hM
      · have n60 : t = 14 := ntEq (by rw [ht]) rfl (by omega) (by omega) c60
        refine lv_ldc hx hb B.2.2.2.1 (B.ts _ q1497) dX3_text_63 ?_
        refine r_iret B hr hM dX3_text_65 ?_
        constructor
        · show _ = A_text (sg ka); unfold A_text; rw [hA]; exact (if_pos c60).symm
        · show Rel (S_text (sg ka)) _; unfold S_text; rw [hA]; simp only []; rw [if_pos (show sg ka 0 6 = 14 from c60)]; exact Rel.txt hb6 (by decide) ((hf6 3 (by decide)).trans (hf5 3 (by decide))) ((hf6 34 (by decide)).trans (hf5 34 (by decide))) h86
    · have hb5 : But [1017, 1020, 1022, 1099] ka ka_10 := But.trans hb4 hq1
      have hRk : ∀ j, j < 9 ∨ 14 < j → (txM (sg ka) w).g j = ka 1099 j := fun j hj => by
        unfold txM
        rw [runM_keep (by omega)]
        show goF (sg ka 7) (rw1 (txG (sg ka)) 14 (nI w)) j = _
        rw [goF_keep (by omega), rw1_n _ (by omega)]
        exact hk3 j (by omega)
      have hf5 : ∀ j, j < 9 ∨ 21 < j → ka_10 1099 j = ka 1099 j := fun j hj => by rw [hq2 j (by omega) (by omega) (by omega)]; exact hRk j (by omega)
      have hA : txT (sg ka) = .inr (ka_10 1099 10) := by
        rw [hq2 10 (by decide) (by decide) (by decide)]
        unfold txT
        rw [hke]
        simp only []
        rw [hgz]
        rfl
      refine lv_if_eq (tgt := 32) hx hb dX3_text_25 (by decide) (fun c25 => ?_) (fun cZ => absurd (by decide) cZ)
      refine lv_iconst (v := 0) hx hb dX3_text_32 (by decide) ?_
      refine lv_istore_n (lv' := [(1, .int 0), (0, .ref y0)]) hx hb dX3_text_33 rfl hl (by decide) rfl (fun ls hl => ?_)
      refine lv_aload_n hx hb dX3_text_34 rfl (lv_at hl 1 rfl) ?_
      refine lv_iconst (v := 0) hx hb dX3_text_35 (by decide) ?_
      refine r_puti B hM 8 hL.1 rfl (by decide) rfl rfl q1390 dX3_text_36 (fun ka_17 H locs eka_17 hM => ?_)
      have hb6 : But [1017, 1020, 1022, 1099] ka ka_17 := But.trans hb5 (by rw [eka_17]; exact But.up (by decide))
      have hf6 : ∀ j, j ≠ 8 → ka_17 1099 j = ka_10 1099 j := fun j hj => by rw [eka_17, up2_i _ _ _ _ hj]
      have h86 : ka_17 1099 8 = 0 := by rw [eka_17, up2_s]
      refine lv_iload_n hx hb dX3_text_39 rfl (lv_at hl 0 rfl) ?_
      refine lv_if_ne (tgt := 51) hx hb dX3_text_40 (by decide) (fun cZ => absurd (by decide) cZ) (fun c40 => ?_)
      refine lv_bipush (v := (-100)) hx hb dX3_text_43 (by decide) ?_
      refine lv_aload_n hx hb dX3_text_45 rfl (lv_at hl 1 rfl) ?_
      refine r_geti B hM 10 hL.1 rfl (by decide) rfl rfl q1392 dX3_text_46 ?_
      refine r_topv (v := ka_10 1099 10) (hf6 10 (by decide)) ?_
      refine lv_isub hx hb dX3_text_49 ?_
      refine r_iret B hr hM dX3_text_50 ?_
      constructor
      · show _ = A_text (sg ka); unfold A_text; rw [hA]
      · show Rel (S_text (sg ka)) _; unfold S_text; rw [hA]; exact Rel.txt hb6 (by decide) ((hf6 3 (by decide)).trans (hf5 3 (by decide))) ((hf6 34 (by decide)).trans (hf5 34 (by decide))) h86
end
