/-! the model: texts worked out, levels -/
set_option maxRecDepth 100000
section
variable {l : Launch} {G : GG} {th : Th} {rh : Rh} {ph : Ph} {ka : Ka} {y0 : Nat} {ay : Nat → Nat}
set_option maxHeartbeats 4000000 in
theorem ok_comes (hL : LayM th rh y0 ay) (hR : Rok (ka 1000)) (h8 : nC (ka 1000) < 8) (kd fl lp : Int32) : Met l yX3_comes (ws_ yX3_comes cX3_comes 7 (some .int)) (RM 1 0 0) (Pc_ G [.ref y0, .int kd, .int fl, .int lp] th rh ph ka) (Qi G th rh ph (fun r ka' => r = nI (nC (ka 1000)) ∧ ka' = up1 ka 1000 (comeT (ka 1000) kd fl lp))) 0 0 (frG G) := by
  refine m_of (by decide) (Nat.le_of_ble_eq_true rfl) ?_
  intro p_ e_ s_ m_ below_ meth_ c_ B hr hnm ls hl hM
  have hx := B.1
  have hb := B.2.1
  have hM := hM
  refine lv_aload_n hx hb dX3_comes_0 rfl (lv_at hl 0 rfl) ?_
  refine r_getq B hM 0 hL.1 rfl (by decide) rfl rfl (hL.2 0 _ _ rfl).1 q1382 dX3_comes_1 ?_
  refine lv_iconst (v := 1) hx hb dX3_comes_4 (by decide) ?_
  refine r_ild B hM 1 (hL.2 0 _ _ rfl).2 rfl (by decide) (by decide) dX3_comes_5 ?_
  refine lv_istore (lv' := [(4, .int (ka 1000 1)), (0, .ref y0), (1, .int kd), (2, .int fl), (3, .int lp)]) hx hb dX3_comes_6 hl (by decide) rfl (fun ls hl => ?_)
  refine lv_bipush (v := 7) hx hb dX3_comes_8 (by decide) ?_
  refine lv_bipush (v := 6) hx hb dX3_comes_10 (by decide) ?_
  refine lv_iload hx hb dX3_comes_12 (lv_at hl 0 rfl) ?_
  refine lv_imul hx hb dX3_comes_14 ?_
  refine lv_iadd hx hb dX3_comes_15 ?_
  refine lv_istore (lv' := [(5, .int (7 + (6 * (ka 1000 1)))), (4, .int (ka 1000 1)), (0, .ref y0), (1, .int kd), (2, .int fl), (3, .int lp)]) hx hb dX3_comes_16 hl (by decide) rfl (fun ls hl => ?_)
  refine lv_iconst (v := 0) hx hb dX3_comes_18 (by decide) ?_
  refine lv_istore (lv' := [(6, .int 0), (5, .int (7 + (6 * (ka 1000 1)))), (4, .int (ka 1000 1)), (0, .ref y0), (1, .int kd), (2, .int fl), (3, .int lp)]) hx hb dX3_comes_19 hl (by decide) rfl (fun ls hl => ?_)
  refine lv_iload hx hb dX3_comes_21 (lv_at hl 0 rfl) ?_
  refine lv_bipush (v := 6) hx hb dX3_comes_23 (by decide) ?_
  refine lv_icmp_ge (tgt := 45) hx hb dX3_comes_25 (by decide) (fun cZ => absurd cZ (by decide)) (fun c25 => ?_)
  refine lv_aload_n hx hb dX3_comes_28 rfl (lv_at hl 3 rfl) ?_
  refine r_getq B hM 0 hL.1 rfl (by decide) rfl rfl (hL.2 0 _ _ rfl).1 q1382 dX3_comes_29 ?_
  refine lv_iload hx hb dX3_comes_32 (lv_at hl 1 rfl) ?_
  refine lv_iload hx hb dX3_comes_34 (lv_at hl 0 rfl) ?_
  refine lv_iadd hx hb dX3_comes_36 ?_
  refine lv_iconst (v := 0) hx hb dX3_comes_37 (by decide) ?_
  refine r_ist B hM (7 + 6 * (nC (ka 1000)) + 0) (hL.2 0 _ _ rfl).2 (by rw [hR.1.1]; simp only [nA, nMu, nL]) (by omega) (by decide) dX3_comes_38 (fun ka_1 H locs eka_1 hM => ?_)
  refine lv_iinc (v := 1) (lv' := [(6, .int 1), (5, .int (7 + (6 * (ka 1000 1)))), (4, .int (ka 1000 1)), (0, .ref y0), (1, .int kd), (2, .int fl), (3, .int lp)]) hx hb dX3_comes_39 hl (k := 0) rfl (by decide) (by decide) rfl (fun ls hl => ?_)
  refine lv_goto (tgt := 21) hx hb dX3_comes_42 (by decide) ?_
  refine lv_iload hx hb dX3_comes_21 (lv_at hl 0 rfl) ?_
  refine lv_bipush (v := 6) hx hb dX3_comes_23 (by decide) ?_
  refine lv_icmp_ge (tgt := 45) hx hb dX3_comes_25 (by decide) (fun cZ => absurd cZ (by decide)) (fun c25 => ?_)
  refine lv_aload_n hx hb dX3_comes_28 rfl (lv_at hl 3 rfl) ?_
  refine r_getq B hM 0 hL.1 rfl (by decide) rfl rfl (hL.2 0 _ _ rfl).1 q1382 dX3_comes_29 ?_
  refine lv_iload hx hb dX3_comes_32 (lv_at hl 1 rfl) ?_
  refine lv_iload hx hb dX3_comes_34 (lv_at hl 0 rfl) ?_
  refine lv_iadd hx hb dX3_comes_36 ?_
  refine lv_iconst (v := 0) hx hb dX3_comes_37 (by decide) ?_
  refine r_ist B hM (7 + 6 * (nC (ka 1000)) + 1) (hL.2 0 _ _ rfl).2 (by rw [hR.1.1]; simp only [nA, nMu, nL]) (by omega) (by decide) dX3_comes_38 (fun ka_2 H locs eka_2 hM => ?_)
  refine lv_iinc (v := 2) (lv' := [(6, .int 2), (5, .int (7 + (6 * (ka 1000 1)))), (4, .int (ka 1000 1)), (0, .ref y0), (1, .int kd), (2, .int fl), (3, .int lp)]) hx hb dX3_comes_39 hl (k := 0) rfl (by decide) (by decide) rfl (fun ls hl => ?_)
  refine lv_goto (tgt := 21) hx hb dX3_comes_42 (by decide) ?_
  refine lv_iload hx hb dX3_comes_21 (lv_at hl 0 rfl) ?_
  refine lv_bipush (v := 6) hx hb dX3_comes_23 (by decide) ?_
  refine lv_icmp_ge (tgt := 45) hx hb dX3_comes_25 (by decide) (fun cZ => absurd cZ (by decide)) (fun c25 => ?_)
  refine lv_aload_n hx hb dX3_comes_28 rfl (lv_at hl 3 rfl) ?_
  refine r_getq B hM 0 hL.1 rfl (by decide) rfl rfl (hL.2 0 _ _ rfl).1 q1382 dX3_comes_29 ?_
  refine lv_iload hx hb dX3_comes_32 (lv_at hl 1 rfl) ?_
  refine lv_iload hx hb dX3_comes_34 (lv_at hl 0 rfl) ?_
  refine lv_iadd hx hb dX3_comes_36 ?_
  refine lv_iconst (v := 0) hx hb dX3_comes_37 (by decide) ?_
  refine r_ist B hM (7 + 6 * (nC (ka 1000)) + 2) (hL.2 0 _ _ rfl).2 (by rw [hR.1.1]; simp only [nA, nMu, nL]) (by omega) (by decide) dX3_comes_38 (fun ka_3 H locs eka_3 hM => ?_)
  refine lv_iinc (v := 3) (lv' := [(6, .int 3), (5, .int (7 + (6 * (ka 1000 1)))), (4, .int (ka 1000 1)), (0, .ref y0), (1, .int kd), (2, .int fl), (3, .int lp)]) hx hb dX3_comes_39 hl (k := 0) rfl (by decide) (by decide) rfl (fun ls hl => ?_)
  refine lv_goto (tgt := 21) hx hb dX3_comes_42 (by decide) ?_
  refine lv_iload hx hb dX3_comes_21 (lv_at hl 0 rfl) ?_
  refine lv_bipush (v := 6) hx hb dX3_comes_23 (by decide) ?_
  refine lv_icmp_ge (tgt := 45) hx hb dX3_comes_25 (by decide) (fun cZ => absurd cZ (by decide)) (fun c25 => ?_)
  refine lv_aload_n hx hb dX3_comes_28 rfl (lv_at hl 3 rfl) ?_
  refine r_getq B hM 0 hL.1 rfl (by decide) rfl rfl (hL.2 0 _ _ rfl).1 q1382 dX3_comes_29 ?_
  refine lv_iload hx hb dX3_comes_32 (lv_at hl 1 rfl) ?_
  refine lv_iload hx hb dX3_comes_34 (lv_at hl 0 rfl) ?_
  refine lv_iadd hx hb dX3_comes_36 ?_
  refine lv_iconst (v := 0) hx hb dX3_comes_37 (by decide) ?_
  refine r_ist B hM (7 + 6 * (nC (ka 1000)) + 3) (hL.2 0 _ _ rfl).2 (by rw [hR.1.1]; simp only [nA, nMu, nL]) (by omega) (by decide) dX3_comes_38 (fun ka_4 H locs eka_4 hM => ?_)
  refine lv_iinc (v := 4) (lv' := [(6, .int 4), (5, .int (7 + (6 * (ka 1000 1)))), (4, .int (ka 1000 1)), (0, .ref y0), (1, .int kd), (2, .int fl), (3, .int lp)]) hx hb dX3_comes_39 hl (k := 0) rfl (by decide) (by decide) rfl (fun ls hl => ?_)
  refine lv_goto (tgt := 21) hx hb dX3_comes_42 (by decide) ?_
  refine lv_iload hx hb dX3_comes_21 (lv_at hl 0 rfl) ?_
  refine lv_bipush (v := 6) hx hb dX3_comes_23 (by decide) ?_
  refine lv_icmp_ge (tgt := 45) hx hb dX3_comes_25 (by decide) (fun cZ => absurd cZ (by decide)) (fun c25 => ?_)
  refine lv_aload_n hx hb dX3_comes_28 rfl (lv_at hl 3 rfl) ?_
  refine r_getq B hM 0 hL.1 rfl (by decide) rfl rfl (hL.2 0 _ _ rfl).1 q1382 dX3_comes_29 ?_
  refine lv_iload hx hb dX3_comes_32 (lv_at hl 1 rfl) ?_
  refine lv_iload hx hb dX3_comes_34 (lv_at hl 0 rfl) ?_
  refine lv_iadd hx hb dX3_comes_36 ?_
  refine lv_iconst (v := 0) hx hb dX3_comes_37 (by decide) ?_
  refine r_ist B hM (7 + 6 * (nC (ka 1000)) + 4) (hL.2 0 _ _ rfl).2 (by rw [hR.1.1]; simp only [nA, nMu, nL]) (by omega) (by decide) dX3_comes_38 (fun ka_5 H locs eka_5 hM => ?_)
  refine lv_iinc (v := 5) (lv' := [(6, .int 5), (5, .int (7 + (6 * (ka 1000 1)))), (4, .int (ka 1000 1)), (0, .ref y0), (1, .int kd), (2, .int fl), (3, .int lp)]) hx hb dX3_comes_39 hl (k := 0) rfl (by decide) (by decide) rfl (fun ls hl => ?_)
  refine lv_goto (tgt := 21) hx hb dX3_comes_42 (by decide) ?_
  refine lv_iload hx hb dX3_comes_21 (lv_at hl 0 rfl) ?_
  refine lv_bipush (v := 6) hx hb dX3_comes_23 (by decide) ?_
  refine lv_icmp_ge (tgt := 45) hx hb dX3_comes_25 (by decide) (fun cZ => absurd cZ (by decide)) (fun c25 => ?_)
  refine lv_aload_n hx hb dX3_comes_28 rfl (lv_at hl 3 rfl) ?_
  refine r_getq B hM 0 hL.1 rfl (by decide) rfl rfl (hL.2 0 _ _ rfl).1 q1382 dX3_comes_29 ?_
  refine lv_iload hx hb dX3_comes_32 (lv_at hl 1 rfl) ?_
  refine lv_iload hx hb dX3_comes_34 (lv_at hl 0 rfl) ?_
  refine lv_iadd hx hb dX3_comes_36 ?_
  refine lv_iconst (v := 0) hx hb dX3_comes_37 (by decide) ?_
  refine r_ist B hM (7 + 6 * (nC (ka 1000)) + 5) (hL.2 0 _ _ rfl).2 (by rw [hR.1.1]; simp only [nA, nMu, nL]) (by omega) (by decide) dX3_comes_38 (fun ka_6 H locs eka_6 hM => ?_)
  refine lv_iinc (v := 6) (lv' := [(6, .int 6), (5, .int (7 + (6 * (ka 1000 1)))), (4, .int (ka 1000 1)), (0, .ref y0), (1, .int kd), (2, .int fl), (3, .int lp)]) hx hb dX3_comes_39 hl (k := 0) rfl (by decide) (by decide) rfl (fun ls hl => ?_)
  refine lv_goto (tgt := 21) hx hb dX3_comes_42 (by decide) ?_
  refine lv_iload hx hb dX3_comes_21 (lv_at hl 0 rfl) ?_
  refine lv_bipush (v := 6) hx hb dX3_comes_23 (by decide) ?_
  refine lv_icmp_ge (tgt := 45) hx hb dX3_comes_25 (by decide) (fun c25 => ?_) (fun cZ => absurd (by decide) cZ)
  refine lv_aload_n hx hb dX3_comes_45 rfl (lv_at hl 3 rfl) ?_
  refine r_getq B hM 0 hL.1 rfl (by decide) rfl rfl (hL.2 0 _ _ rfl).1 q1382 dX3_comes_46 ?_
  refine lv_iload hx hb dX3_comes_49 (lv_at hl 1 rfl) ?_
  refine lv_iload_n hx hb dX3_comes_51 rfl (lv_at hl 4 rfl) ?_
  refine r_ist B hM (7 + 6 * (nC (ka 1000))) (hL.2 0 _ _ rfl).2 (by rw [hR.1.1]; simp only [nA, nMu, nL]) (by omega) (by decide) dX3_comes_52 (fun ka_7 H locs eka_7 hM => ?_)
  refine lv_aload_n hx hb dX3_comes_53 rfl (lv_at hl 3 rfl) ?_
  refine r_getq B hM 0 hL.1 rfl (by decide) rfl rfl (hL.2 0 _ _ rfl).1 q1382 dX3_comes_54 ?_
  refine lv_iload hx hb dX3_comes_57 (lv_at hl 1 rfl) ?_
  refine lv_iconst (v := 1) hx hb dX3_comes_59 (by decide) ?_
  refine lv_iadd hx hb dX3_comes_60 ?_
  refine lv_iload_n hx hb dX3_comes_61 rfl (lv_at hl 5 rfl) ?_
  refine r_ist B hM (7 + 6 * (nC (ka 1000)) + 1) (hL.2 0 _ _ rfl).2 (by rw [hR.1.1]; simp only [nA, nMu, nL]) (by omega) (by decide) dX3_comes_62 (fun ka_8 H locs eka_8 hM => ?_)
  refine lv_aload_n hx hb dX3_comes_63 rfl (lv_at hl 3 rfl) ?_
  refine r_getq B hM 0 hL.1 rfl (by decide) rfl rfl (hL.2 0 _ _ rfl).1 q1382 dX3_comes_64 ?_
  refine lv_iload hx hb dX3_comes_67 (lv_at hl 1 rfl) ?_
  refine lv_iconst (v := 2) hx hb dX3_comes_69 (by decide) ?_
  refine lv_iadd hx hb dX3_comes_70 ?_
  refine lv_iload_n hx hb dX3_comes_71 rfl (lv_at hl 6 rfl) ?_
  refine r_ist B hM (7 + 6 * (nC (ka 1000)) + 2) (hL.2 0 _ _ rfl).2 (by rw [hR.1.1]; simp only [nA, nMu, nL]) (by omega) (by decide) dX3_comes_72 (fun ka_9 H locs eka_9 hM => ?_)
  refine lv_aload_n hx hb dX3_comes_73 rfl (lv_at hl 3 rfl) ?_
  refine r_getq B hM 0 hL.1 rfl (by decide) rfl rfl (hL.2 0 _ _ rfl).1 q1382 dX3_comes_74 ?_
  refine lv_iconst (v := 1) hx hb dX3_comes_77 (by decide) ?_
  refine lv_dup2_11 hx hb dX3_comes_78 rfl rfl ?_
  refine r_ild B hM 1 (hL.2 0 _ _ rfl).2 rfl (by decide) (by decide) dX3_comes_79 ?_
  refine lv_iconst (v := 1) hx hb dX3_comes_80 (by decide) ?_
  refine lv_iadd hx hb dX3_comes_81 ?_
  refine r_ist B hM 1 (hL.2 0 _ _ rfl).2 rfl (by decide) (by decide) dX3_comes_82 (fun ka_10 H locs eka_10 hM => ?_)
  refine lv_iload hx hb dX3_comes_83 (lv_at hl 2 rfl) ?_
  refine r_iret B hr hM dX3_comes_85 ?_
  refine ⟨hR.1.1, ?_⟩
  subst_vars
  funext j i
  by_cases hj : j = 1000
  · subst hj; simp only [up2, up1_s, comeT, true_and]; grind
  · rw [up1_a _ _ hj]; simp [up2, hj]
set_option maxHeartbeats 4000000 in
theorem ok_counts (hL : LayM th rh y0 ay) (hR : Rok (ka 1000)) (key : Int32) : Met l yX3_counts (ws_ yX3_counts cX3_counts 3 (some .int)) (RM 1 0 0) (Pc_ G [.ref y0, .int key] th rh ph ka) (Qp G th rh ph ka (fun r => r = opI (cntT (ka 1000) key (nX (ka 1000))))) 0 0 (frG G) := by
  refine m_of (by decide) (Nat.le_of_ble_eq_true rfl) ?_
  intro p_ e_ s_ m_ below_ meth_ c_ B hr hnm ls hl hM
  have hx := B.1
  have hb := B.2.1
  have hM := hM
  have h14 := hR.2.2.1.2
  have loop : ∀ (fu_loop : Nat) (k : Nat) (x : Int32), k < fu_loop → (k ≤ nX (ka 1000)) → (x = nI k - 1) → (cntT (ka 1000) key (nX (ka 1000)) = cntT (ka 1000) key k) → ∀ (ls : Array Slot) (H : Heap) (locs : List Loc), lv_has ls 3 [(0, .ref y0), (1, .int key), (2, .int x)] → Md G th rh ph ka H locs → W p_ l e_ (RM 1 0 0) s_ m_ ([.ref y0, .int key].toArray) below_ meth_ c_ H locs 0 0 (MQ below_ (Qp G th rh ph ka (fun r => r = opI (cntT (ka 1000) key (nX (ka 1000))))) ([.ref y0, .int key].toArray) s_ 0 0 (frG G)) (F0 m_ 10 ls []) := by
    intro fu_loop
    induction fu_loop with
    | zero => intro k x hfu; exact absurd hfu (Nat.not_lt_zero _)
    | succ fu_loop ih_loop =>
      intro k x hfu_loop hk hxk hc ls H locs hl hM
      refine lv_iload_n hx hb dX3_counts_10 rfl (lv_at hl 2 rfl) ?_
      refine lv_if_lt (tgt := 41) hx hb dX3_counts_11 (by decide) (fun c11 => ?_) (fun c11 => ?_)
      · refine lv_iconst (v := (-1)) hx hb dX3_counts_41 (by decide) ?_
        refine r_iretp B hr hM dX3_counts_42 ?_
        rw [hc, pred_zero hxk (by have := hR.2.2.1.2; omega) c11]; rfl
      · obtain ⟨z, rfl, hx1⟩ := pred_pos hxk c11
        refine lv_aload_n hx hb dX3_counts_14 rfl (lv_at hl 0 rfl) ?_
        refine r_getq B hM 0 hL.1 rfl (by decide) rfl rfl (hL.2 0 _ _ rfl).1 q1382 dX3_counts_15 ?_
        refine lv_bipush (v := 107) hx hb dX3_counts_18 (by decide) ?_
        refine lv_iconst (v := 2) hx hb dX3_counts_20 (by decide) ?_
        refine lv_iload_n hx hb dX3_counts_21 rfl (lv_at hl 2 rfl) ?_
        refine lv_imul hx hb dX3_counts_22 ?_
        refine lv_iadd hx hb dX3_counts_23 ?_
        refine r_ild B hM (107 + 2 * z) (hL.2 0 _ _ rfl).2 (by rw [hx1]; simp only [nA, nMu, nL]) (by omega) (by decide) dX3_counts_24 ?_
        refine lv_sipush (v := 1000) hx hb dX3_counts_25 (by decide) ?_
        refine lv_idiv hx hb dX3_counts_28 (by decide) ?_
        refine lv_iload_n hx hb dX3_counts_29 rfl (lv_at hl 1 rfl) ?_
        refine lv_icmp_ne (tgt := 35) hx hb dX3_counts_30 (by decide) (fun c30 => ?_) (fun c30 => ?_)
        · obtain ⟨v_1, ev_1⟩ : ∃ z : Int32, z = x + Int32.ofInt (-1) := ⟨_, rfl⟩
          refine lv_iinc (v := v_1) (lv' := [(2, .int v_1), (0, .ref y0), (1, .int key)]) hx hb dX3_counts_35 hl (k := 2) rfl ev_1.symm (by decide) rfl (fun ls hl => ?_)
          refine lv_goto (tgt := 10) hx hb dX3_counts_38 (by decide) ?_
          exact ih_loop z v_1 (by omega) (by omega) (by rw [ev_1, hx1]; exact m1_sub _) (by rw [hc, cntT, if_neg c30]) _ _ _ (lv_sub hl [1, 2, 0] rfl) hM
        · refine lv_iload_n hx hb dX3_counts_33 rfl (lv_at hl 2 rfl) ?_
          refine r_iretp B hr hM dX3_counts_34 ?_
          rw [hc, cntT, if_pos c30]; exact hx1
  refine lv_aload_n hx hb dX3_counts_0 rfl (lv_at hl 0 rfl) ?_
  refine r_getq B hM 0 hL.1 rfl (by decide) rfl rfl (hL.2 0 _ _ rfl).1 q1382 dX3_counts_1 ?_
  refine lv_bipush (v := 6) hx hb dX3_counts_4 (by decide) ?_
  refine r_ild B hM 6 (hL.2 0 _ _ rfl).2 rfl (by decide) (by decide) dX3_counts_6 ?_
  refine lv_iconst (v := 1) hx hb dX3_counts_7 (by decide) ?_
  refine lv_isub hx hb dX3_counts_8 ?_
  refine lv_topi (fun v_2 ev_2 => ?_)
  refine lv_istore_n (lv' := [(2, .int v_2), (0, .ref y0), (1, .int key)]) hx hb dX3_counts_9 rfl hl (by decide) rfl (fun ls hl => ?_)
  exact loop (nX (ka 1000) + 1) (nX (ka 1000)) v_2 (by omega) (Nat.le_refl _) (by rw [ev_2, hR.2.2.1.1]) rfl _ _ _ (lv_sub hl [1, 2, 0] rfl) hM
set_option maxHeartbeats 4000000 in
theorem ok_worksOut (hL : LayM th rh y0 ay) {x m : Nat} (hx14 : x < 14) (hm : m ≤ 4) (hlen : lenT (ka 1000) x ≤ 96) (hmany : ka 1000 (107 + 2 * x) - ka 1000 (107 + 2 * x) / 1000 * 1000 = nI (lenT (ka 1000) x)) (hok0 : okC m (codeT (ka 1000) x) 0) : Met l yX3_worksOut (ws_ yX3_worksOut cX3_worksOut 6 (some .int)) (RM 2 0 0) (Pc_ G [.ref y0, .int (nI x)] th rh ph ka) (Qi G th rh ph (fun r ka' => r = worksT (ka 1000) x (ka 1024) ∧ But [1023] ka ka')) 0 0 (frG G) := by
  refine m_of (by decide) (Nat.le_of_ble_eq_true rfl) ?_
  intro p_ e_ s_ m_ below_ meth_ c_ B hr hnm ls hl hM
  have hx := B.1
  have hb := B.2.1
  have hM := hM
  have loop : ∀ (fu_loop : Nat) (i : Nat) (st : List Int32) (kb : Ka), lenT (ka 1000) x - i < fu_loop → (i ≤ lenT (ka 1000) x) → (StkR (kb 1023) st) → (st.length ≤ i) → (But [1023] ka kb) → (okC m ((codeT (ka 1000) x).drop i) st.length) → (evC (ka 1024) (codeT (ka 1000) x) [] = evC (ka 1024) ((codeT (ka 1000) x).drop i) st) → ∀ (ls : Array Slot) (H : Heap) (locs : List Loc), lv_has ls 6 [(0, .ref y0), (1, .int (nI x)), (2, .int (nI st.length)), (3, .int (nI (lenT (ka 1000) x))), (4, .int (nI i))] → Md G th rh ph kb H locs → W p_ l e_ (RM 2 0 0) s_ m_ ([.ref y0, .int (nI x)].toArray) below_ meth_ c_ H locs 0 0 (MQ below_ (Qi G th rh ph (fun r ka' => r = worksT (ka 1000) x (ka 1024) ∧ But [1023] ka ka')) ([.ref y0, .int (nI x)].toArray) s_ 0 0 (frG G)) (F0 m_ 21 ls []) := by
    intro fu_loop
    induction fu_loop with
    | zero => intro i st kb hfu; exact absurd hfu (Nat.not_lt_zero _)
    | succ fu_loop ih_loop =>
      intro i st kb hfu_loop hi hst hln hk hok hev ls H locs hl hM
      refine lv_iload hx hb dX3_worksOut_21 (lv_at hl 4 rfl) ?_
      refine lv_iload_n hx hb dX3_worksOut_23 rfl (lv_at hl 3 rfl) ?_
      refine lv_icmp_ge (tgt := 156) hx hb dX3_worksOut_24 (by decide) (fun c24 => ?_) (fun c24 => ?_)
      · have n24 : lenT (ka 1000) x ≤ i := ntLe rfl rfl (by omega) (by omega) c24
        refine lv_aload_n hx hb dX3_worksOut_156 rfl (lv_at hl 0 rfl) ?_
        refine r_getq B hM 23 hL.1 rfl (by decide) rfl rfl (hL.2 23 _ _ rfl).1 q1405 dX3_worksOut_157 ?_
        refine lv_iconst (v := 0) hx hb dX3_worksOut_160 (by decide) ?_
        refine r_ild B hM 0 (hL.2 23 _ _ rfl).2 rfl (by decide) (by decide) dX3_worksOut_161 ?_
        refine r_iret B hr hM dX3_worksOut_162 ?_
        rw [codeT_end n24] at hok hev
        refine ⟨?_, hk⟩
        obtain ⟨x0, st, rfl⟩ : ∃ a b, st = a :: b := List.exists_cons_of_length_pos (by have : st.length = 1 := hok; omega)
        have h1 : st = [] := List.eq_nil_of_length_eq_zero (by have : (x0 :: st).length = 1 := hok; simpa using this)
        subst h1
        rw [worksT, hev]
        exact hst.1
      · have n24 : i < lenT (ka 1000) x := ntNle rfl rfl (by omega) (by omega) c24
        rw [codeT_drop n24] at hok hev
        refine lv_aload_n hx hb dX3_worksOut_27 rfl (lv_at hl 0 rfl) ?_
        refine r_getq B hM 0 hL.1 rfl (by decide) rfl rfl (hL.2 0 _ _ rfl).1 q1382 dX3_worksOut_28 ?_
        refine lv_sipush (v := 135) hx hb dX3_worksOut_31 (by decide) ?_
        refine lv_bipush (v := 96) hx hb dX3_worksOut_34 (by decide) ?_
        refine lv_iload_n hx hb dX3_worksOut_36 rfl (lv_at hl 1 rfl) ?_
        refine lv_imul hx hb dX3_worksOut_37 ?_
        refine lv_iadd hx hb dX3_worksOut_38 ?_
        refine lv_iload hx hb dX3_worksOut_39 (lv_at hl 4 rfl) ?_
        refine lv_iadd hx hb dX3_worksOut_41 ?_
        refine r_ild B hM (135 + 96 * x + i) (hL.2 0 _ _ rfl).2 (by simp only [nA, nMu, nL]) (by omega) (by decide) dX3_worksOut_42 ?_
        refine lv_topi (fun v_1 ev_1 => ?_)
        refine lv_istore (lv' := [(5, .int v_1), (0, .ref y0), (1, .int (nI x)), (2, .int (nI st.length)), (3, .int (nI (lenT (ka 1000) x))), (4, .int (nI i))]) hx hb dX3_worksOut_43 hl (by decide) rfl (fun ls hl => ?_)
        refine lv_iload hx hb dX3_worksOut_45 (lv_at hl 0 rfl) ?_
        refine lv_if_lt (tgt := 86) hx hb dX3_worksOut_47 (by decide) (fun c47 => ?_) (fun c47 => ?_)
        · refine lv_iload hx hb dX3_worksOut_86 (lv_at hl 0 rfl) ?_
          refine lv_bipush (v := (-10)) hx hb dX3_worksOut_88 (by decide) ?_
          refine lv_icmp_ne (tgt := 120) hx hb dX3_worksOut_90 (by decide) (fun c90 => ?_) (fun c90 => ?_)
          · have hv : v_1 = ka 1000 (135 + 96 * x + i) := by rw [ev_1, hk 1000 (by decide)]
            rw [← hv] at hok hev
            obtain ⟨hsg, hd, hok2⟩ := okC_two hok c47 c90
            obtain ⟨x1, st, rfl⟩ : ∃ a b, st = a :: b := List.exists_cons_of_length_pos (by omega)
            obtain ⟨x0, st, rfl⟩ : ∃ a b, st = a :: b := List.exists_cons_of_length_pos (by simp at hd; omega)
            simp only [List.length_cons] at hln
            refine lv_iinc (v := nI (st.length + 1)) (lv' := [(2, .int (nI (st.length + 1))), (5, .int v_1), (0, .ref y0), (1, .int (nI x)), (3, .int (nI (lenT (ka 1000) x))), (4, .int (nI i))]) hx hb dX3_worksOut_120 hl (k := 3) rfl (by exact pk_m1 _) (by decide) rfl (fun ls hl => ?_)
            refine lv_aload_n hx hb dX3_worksOut_123 rfl (lv_at hl 2 rfl) ?_
            refine r_getq B hM 23 hL.1 rfl (by decide) rfl rfl (hL.2 23 _ _ rfl).1 q1405 dX3_worksOut_124 ?_
            refine lv_iload_n hx hb dX3_worksOut_127 rfl (lv_at hl 0 rfl) ?_
            refine lv_iconst (v := 1) hx hb dX3_worksOut_128 (by decide) ?_
            refine lv_isub hx hb dX3_worksOut_129 ?_
            refine lv_iload hx hb dX3_worksOut_130 (lv_at hl 1 rfl) ?_
            refine lv_aload_n hx hb dX3_worksOut_132 rfl (lv_at hl 2 rfl) ?_
            refine r_getq B hM 23 hL.1 rfl (by decide) rfl rfl (hL.2 23 _ _ rfl).1 q1405 dX3_worksOut_133 ?_
            refine lv_iload_n hx hb dX3_worksOut_136 rfl (lv_at hl 0 rfl) ?_
            refine lv_iconst (v := 1) hx hb dX3_worksOut_137 (by decide) ?_
            refine lv_isub hx hb dX3_worksOut_138 ?_
            refine r_ild B hM st.length (hL.2 23 _ _ rfl).2 (nI_pred st.length) (by omega) (by decide) dX3_worksOut_139 ?_
            refine lv_aload_n hx hb dX3_worksOut_140 rfl (lv_at hl 2 rfl) ?_
            refine r_getq B hM 23 hL.1 rfl (by decide) rfl rfl (hL.2 23 _ _ rfl).1 q1405 dX3_worksOut_141 ?_
            refine lv_iload_n hx hb dX3_worksOut_144 rfl (lv_at hl 0 rfl) ?_
            refine r_ild B hM (st.length + 1) (hL.2 23 _ _ rfl).2 rfl (by omega) (by decide) dX3_worksOut_145 ?_
            refine k_pe (v := twoT v_1 (kb 1023 st.length) (kb 1023 (st.length + 1))) (r_S (As := [.int v_1, .int (kb 1023 st.length), .int (kb 1023 (st.length + 1))]) (rest := [.int ((nI (st.length + 1)) - 1), .ref (ay 23)]) B hM (ok_two v_1 (kb 1023 st.length) (kb 1023 (st.length + 1)) hsg) cal_X3_two q1533 rfl hl.1 (Nat.le_of_ble_eq_true rfl) dX3_worksOut_146 ⟨Nat.le_of_ble_eq_true rfl, Nat.le_of_ble_eq_true rfl⟩ ⟨Nat.le_of_ble_eq_true rfl, Nat.le_of_ble_eq_true rfl⟩) hM (fun H locs hM => ?_)
            refine r_ist B hM st.length (hL.2 23 _ _ rfl).2 (nI_pred st.length) (by omega) (by decide) dX3_worksOut_149 (fun ka_2 H locs eka_2 hM => ?_)
            refine lv_iinc (v := nI (i + 1)) (lv' := [(4, .int (nI (i + 1))), (2, .int (nI (st.length + 1))), (5, .int v_1), (0, .ref y0), (1, .int (nI x)), (3, .int (nI (lenT (ka 1000) x)))]) hx hb dX3_worksOut_150 hl (k := 5) rfl (nI_1 _) (by decide) rfl (fun ls hl => ?_)
            refine lv_goto (tgt := 21) hx hb dX3_worksOut_153 (by decide) ?_
            exact ih_loop (i + 1) (twoT v_1 (kb 1023 st.length) (kb 1023 (st.length + 1)) :: st) ka_2 (by omega) (by omega) (by rw [eka_2, up2_row]; exact ⟨va_up_self _ _ _, StkR_up (fun j hj => va_up_ne _ _ (by omega)) hst.2.2⟩) (by simp only [List.length_cons]; omega) (hk.trans (by rw [eka_2]; exact But.up (by decide))) hok2 (by rw [hev]; show evC _ _ (stepC (ka 1024) (x1 :: x0 :: st) v_1) = _; rw [stepC_two c47 c90, hst.2.1, show kb 1023 (st.length + 1) = x1 from hst.1]) _ _ _ (lv_sub hl [3, 4, 1, 5, 0] rfl) hM
          · have hv : v_1 = ka 1000 (135 + 96 * x + i) := by rw [ev_1, hk 1000 (by decide)]
            rw [← hv] at hok hev
            obtain ⟨hd, hok2⟩ := okC_not hok c90
            obtain ⟨x0, st, rfl⟩ : ∃ a b, st = a :: b := List.exists_cons_of_length_pos hd
            simp only [List.length_cons] at hln
            refine lv_aload_n hx hb dX3_worksOut_93 rfl (lv_at hl 1 rfl) ?_
            refine r_getq B hM 23 hL.1 rfl (by decide) rfl rfl (hL.2 23 _ _ rfl).1 q1405 dX3_worksOut_94 ?_
            refine lv_iload_n hx hb dX3_worksOut_97 rfl (lv_at hl 3 rfl) ?_
            refine lv_iconst (v := 1) hx hb dX3_worksOut_98 (by decide) ?_
            refine lv_isub hx hb dX3_worksOut_99 ?_
            refine lv_aload_n hx hb dX3_worksOut_100 rfl (lv_at hl 1 rfl) ?_
            refine r_getq B hM 23 hL.1 rfl (by decide) rfl rfl (hL.2 23 _ _ rfl).1 q1405 dX3_worksOut_101 ?_
            refine lv_iload_n hx hb dX3_worksOut_104 rfl (lv_at hl 3 rfl) ?_
            refine lv_iconst (v := 1) hx hb dX3_worksOut_105 (by decide) ?_
            refine lv_isub hx hb dX3_worksOut_106 ?_
            refine r_ild B hM st.length (hL.2 23 _ _ rfl).2 (nI_pred st.length) (by omega) (by decide) dX3_worksOut_107 ?_
            refine lv_if_ne (tgt := 115) hx hb dX3_worksOut_108 (by decide) (fun c108 => ?_) (fun c108 => ?_)
            · refine lv_iconst (v := 0) hx hb dX3_worksOut_115 (by decide) ?_
              refine r_ist B hM st.length (hL.2 23 _ _ rfl).2 (nI_pred st.length) (by omega) (by decide) dX3_worksOut_116 (fun ka_3 H locs eka_3 hM => ?_)
              refine lv_goto (tgt := 150) hx hb dX3_worksOut_117 (by decide) ?_
              refine lv_iinc (v := nI (i + 1)) (lv' := [(4, .int (nI (i + 1))), (5, .int v_1), (0, .ref y0), (1, .int (nI x)), (2, .int (nI (x0 :: st).length)), (3, .int (nI (lenT (ka 1000) x)))]) hx hb dX3_worksOut_150 hl (k := 5) rfl (nI_1 _) (by decide) rfl (fun ls hl => ?_)
              refine lv_goto (tgt := 21) hx hb dX3_worksOut_153 (by decide) ?_
              exact ih_loop (i + 1) (0 :: st) ka_3 (by omega) (by omega) (by rw [eka_3, up2_row]; exact ⟨va_up_self _ _ _, StkR_up (fun j hj => va_up_ne _ _ (by omega)) hst.2⟩) (by simp only [List.length_cons] at hln ⊢; omega) (hk.trans (by rw [eka_3]; exact But.up (by decide))) hok2 (by rw [hev]; show evC _ _ (stepC (ka 1024) (x0 :: st) v_1) = _; rw [stepC_not c90]; rw [if_neg (by rw [← hst.1]; exact c108)]) _ _ _ (lv_sub hl [2, 3, 4, 5, 0] rfl) hM
            · refine lv_iconst (v := 1) hx hb dX3_worksOut_111 (by decide) ?_
              refine lv_goto (tgt := 116) hx hb dX3_worksOut_112 (by decide) ?_
              refine r_ist B hM st.length (hL.2 23 _ _ rfl).2 (nI_pred st.length) (by omega) (by decide) dX3_worksOut_116 (fun ka_4 H locs eka_4 hM => ?_)
              refine lv_goto (tgt := 150) hx hb dX3_worksOut_117 (by decide) ?_
              refine lv_iinc (v := nI (i + 1)) (lv' := [(4, .int (nI (i + 1))), (5, .int v_1), (0, .ref y0), (1, .int (nI x)), (2, .int (nI (x0 :: st).length)), (3, .int (nI (lenT (ka 1000) x)))]) hx hb dX3_worksOut_150 hl (k := 5) rfl (nI_1 _) (by decide) rfl (fun ls hl => ?_)
              refine lv_goto (tgt := 21) hx hb dX3_worksOut_153 (by decide) ?_
              exact ih_loop (i + 1) (1 :: st) ka_4 (by omega) (by omega) (by rw [eka_4, up2_row]; exact ⟨va_up_self _ _ _, StkR_up (fun j hj => va_up_ne _ _ (by omega)) hst.2⟩) (by simp only [List.length_cons] at hln ⊢; omega) (hk.trans (by rw [eka_4]; exact But.up (by decide))) hok2 (by rw [hev]; show evC _ _ (stepC (ka 1024) (x0 :: st) v_1) = _; rw [stepC_not c90]; rw [if_pos (by rw [← hst.1]; exact c108)]) _ _ _ (lv_sub hl [2, 3, 4, 5, 0] rfl) hM
        · have hv : v_1 = ka 1000 (135 + 96 * x + i) := by rw [ev_1, hk 1000 (by decide)]
          rw [← hv] at hok hev
          obtain ⟨hlt, hok2⟩ := okC_pos hok c47
          refine lv_aload_n hx hb dX3_worksOut_50 rfl (lv_at hl 1 rfl) ?_
          refine r_getq B hM 23 hL.1 rfl (by decide) rfl rfl (hL.2 23 _ _ rfl).1 q1405 dX3_worksOut_51 ?_
          refine lv_iload_n hx hb dX3_worksOut_54 rfl (lv_at hl 3 rfl) ?_
          refine lv_iload hx hb dX3_worksOut_55 (lv_at hl 0 rfl) ?_
          refine lv_sipush (v := 10000) hx hb dX3_worksOut_57 (by decide) ?_
          refine lv_icmp_ge (tgt := 68) hx hb dX3_worksOut_60 (by decide) (fun c60 => ?_) (fun c60 => ?_)
          · obtain ⟨k, hkm, hvk⟩ := name_ix hm c47 (i_nlt.mpr c60) hlt
            refine lv_aload_n hx hb dX3_worksOut_68 rfl (lv_at hl 1 rfl) ?_
            refine r_getq B hM 24 hL.1 rfl (by decide) rfl rfl (hL.2 24 _ _ rfl).1 q1406 dX3_worksOut_69 ?_
            refine lv_iload hx hb dX3_worksOut_72 (lv_at hl 0 rfl) ?_
            refine lv_sipush (v := 10000) hx hb dX3_worksOut_74 (by decide) ?_
            refine lv_isub hx hb dX3_worksOut_77 ?_
            refine r_ild B hM k (hL.2 24 _ _ rfl).2 hvk (by omega) (by decide) dX3_worksOut_78 ?_
            refine r_ist B hM st.length (hL.2 23 _ _ rfl).2 rfl (by omega) (by decide) dX3_worksOut_79 (fun ka_5 H locs eka_5 hM => ?_)
            refine lv_iinc (v := nI (st.length + 1)) (lv' := [(2, .int (nI (st.length + 1))), (5, .int v_1), (0, .ref y0), (1, .int (nI x)), (3, .int (nI (lenT (ka 1000) x))), (4, .int (nI i))]) hx hb dX3_worksOut_80 hl (k := 3) rfl (nI_1 _) (by decide) rfl (fun ls hl => ?_)
            refine lv_goto (tgt := 150) hx hb dX3_worksOut_83 (by decide) ?_
            refine lv_iinc (v := nI (i + 1)) (lv' := [(4, .int (nI (i + 1))), (2, .int (nI (st.length + 1))), (5, .int v_1), (0, .ref y0), (1, .int (nI x)), (3, .int (nI (lenT (ka 1000) x)))]) hx hb dX3_worksOut_150 hl (k := 5) rfl (nI_1 _) (by decide) rfl (fun ls hl => ?_)
            refine lv_goto (tgt := 21) hx hb dX3_worksOut_153 (by decide) ?_
            exact ih_loop (i + 1) (ka 1024 k :: st) ka_5 (by omega) (by omega) (by rw [eka_5, up2_row]; exact ⟨(va_up_self _ _ _).trans (by rw [hk 1024 (by decide)]), StkR_up (fun j hj => va_up_ne _ _ (by omega)) hst⟩) (by simp only [List.length_cons]; omega) (hk.trans (by rw [eka_5]; exact But.up (by decide))) hok2 (by rw [hev]; show evC _ _ (stepC (ka 1024) st v_1) = _; rw [stepC_name c47 (i_nlt.mpr c60) hvk (by omega)]) _ _ _ (lv_sub hl [3, 4, 1, 5, 0] rfl) hM
          · refine lv_iload hx hb dX3_worksOut_63 (lv_at hl 0 rfl) ?_
            refine lv_goto (tgt := 79) hx hb dX3_worksOut_65 (by decide) ?_
            refine r_ist B hM st.length (hL.2 23 _ _ rfl).2 rfl (by omega) (by decide) dX3_worksOut_79 (fun ka_6 H locs eka_6 hM => ?_)
            refine lv_iinc (v := nI (st.length + 1)) (lv' := [(2, .int (nI (st.length + 1))), (5, .int v_1), (0, .ref y0), (1, .int (nI x)), (3, .int (nI (lenT (ka 1000) x))), (4, .int (nI i))]) hx hb dX3_worksOut_80 hl (k := 3) rfl (nI_1 _) (by decide) rfl (fun ls hl => ?_)
            refine lv_goto (tgt := 150) hx hb dX3_worksOut_83 (by decide) ?_
            refine lv_iinc (v := nI (i + 1)) (lv' := [(4, .int (nI (i + 1))), (2, .int (nI (st.length + 1))), (5, .int v_1), (0, .ref y0), (1, .int (nI x)), (3, .int (nI (lenT (ka 1000) x)))]) hx hb dX3_worksOut_150 hl (k := 5) rfl (nI_1 _) (by decide) rfl (fun ls hl => ?_)
            refine lv_goto (tgt := 21) hx hb dX3_worksOut_153 (by decide) ?_
            exact ih_loop (i + 1) (v_1 :: st) ka_6 (by omega) (by omega) (by rw [eka_6, up2_row]; exact ⟨va_up_self _ _ _, StkR_up (fun j hj => va_up_ne _ _ (by omega)) hst⟩) (by simp only [List.length_cons]; omega) (hk.trans (by rw [eka_6]; exact But.up (by decide))) hok2 (by rw [hev]; show evC _ _ (stepC (ka 1024) st v_1) = _; rw [stepC_lit c47 (i_nle.mp c60)]) _ _ _ (lv_sub hl [3, 4, 1, 5, 0] rfl) hM
  refine lv_iconst (v := 0) hx hb dX3_worksOut_0 (by decide) ?_
  refine lv_istore_n (lv' := [(2, .int 0), (0, .ref y0), (1, .int (nI x))]) hx hb dX3_worksOut_1 rfl hl (by decide) rfl (fun ls hl => ?_)
  refine lv_aload_n hx hb dX3_worksOut_2 rfl (lv_at hl 1 rfl) ?_
  refine r_getq B hM 0 hL.1 rfl (by decide) rfl rfl (hL.2 0 _ _ rfl).1 q1382 dX3_worksOut_3 ?_
  refine lv_bipush (v := 107) hx hb dX3_worksOut_6 (by decide) ?_
  refine lv_iconst (v := 2) hx hb dX3_worksOut_8 (by decide) ?_
  refine lv_iload_n hx hb dX3_worksOut_9 rfl (lv_at hl 2 rfl) ?_
  refine lv_imul hx hb dX3_worksOut_10 ?_
  refine lv_iadd hx hb dX3_worksOut_11 ?_
  refine r_ild B hM (107 + 2 * x) (hL.2 0 _ _ rfl).2 (by simp only [nA, nMu, nL]) (by omega) (by decide) dX3_worksOut_12 ?_
  refine lv_sipush (v := 1000) hx hb dX3_worksOut_13 (by decide) ?_
  refine lv_irem hx hb dX3_worksOut_16 (by decide) ?_
  refine lv_topi (fun v_7 ev_7 => ?_)
  refine lv_istore_n (lv' := [(3, .int v_7), (2, .int 0), (0, .ref y0), (1, .int (nI x))]) hx hb dX3_worksOut_17 rfl hl (by decide) rfl (fun ls hl => ?_)
  rw [hmany] at ev_7
  subst ev_7
  refine lv_iconst (v := 0) hx hb dX3_worksOut_18 (by decide) ?_
  refine lv_istore (lv' := [(4, .int 0), (3, .int (nI (lenT (ka 1000) x))), (2, .int 0), (0, .ref y0), (1, .int (nI x))]) hx hb dX3_worksOut_19 hl (by decide) rfl (fun ls hl => ?_)
  exact loop (lenT (ka 1000) x + 1) 0 ([]) ka (by omega) (Nat.zero_le _) trivial (Nat.le_refl _) But.refl hok0 rfl _ _ _ (lv_sub hl [3, 4, 2, 1, 0] rfl) hM
end
