/-! the component: towns, told -/
set_option maxRecDepth 100000
section
variable {l : Launch} {G : GG} {th : Th} {rh : Rh} {ph : Ph} {ka : Ka} {A : XA} {j : Nat} {K : Nat → Option Nat} {t : Row} {u s : Nat}
set_option maxHeartbeats 4000000 in
theorem ok_X1_drawn (hN : Tn th rh ka A j K t) (hj : j ≤ 2)  : Met l yX1_drawn (ws_ yX1_drawn cX1_drawn 1 (some .int)) (RM 1 0 0) (Pc_ G [.ref (A.tw j)] th rh ph ka) (Qi G th rh ph (fun r ka' => r = z8 (drawT (t 0)) ∧ RepT ka' j (rw1 t 0 (drawT (t 0))) ∧ ButT j ka ka')) 0 0 (frG G) := by
  refine m_of (by decide) (Nat.le_of_ble_eq_true rfl) ?_
  intro p_ e_ s_ m_ below_ meth_ c_ B hr hnm ls hl hM
  have hx := B.1
  have hb := B.2.1
  have hM := hM
  have hO := hN.1
  have hW := hN.2.1
  have hR := hN.2.2.2.2.1
  have h8 := hR.1.2
  have h13 := hR.2.1.2
  refine lv_aload_n hx hb dX1_drawn_0 rfl (lv_at hl 0 rfl) ?_
  refine lv_aload_n hx hb dX1_drawn_1 rfl (lv_at hl 0 rfl) ?_
  refine r_geti B hM 6 hW.1 rfl (by decide) rfl rfl q134 dX1_drawn_2 ?_
  refine r_topv (v := t 0) (hN.2.2.2.2.2.1.1.2.2.2.2.2.2) ?_
  refine lv_ldc hx hb B.2.2.2.1 (B.ts _ q784) dX1_drawn_5 ?_
  refine lv_imul hx hb dX1_drawn_7 ?_
  refine lv_sipush (v := 12345) hx hb dX1_drawn_8 (by decide) ?_
  refine lv_iadd hx hb dX1_drawn_11 ?_
  refine r_puti B hM 6 hW.1 rfl (by decide) rfl rfl q134 dX1_drawn_12 (fun ka_1 H locs eka_1 hM => ?_)
  refine lv_aload_n hx hb dX1_drawn_15 rfl (lv_at hl 0 rfl) ?_
  refine r_geti B hM 6 hW.1 rfl (by decide) rfl rfl q134 dX1_drawn_16 ?_
  refine r_topv (v := drawT (t 0)) (by rw [eka_1, up2_s]; rfl) ?_
  refine lv_bipush (v := 8) hx hb dX1_drawn_19 (by decide) ?_
  refine lv_iushr hx hb dX1_drawn_21 rfl ?_
  refine r_iret B hr hM dX1_drawn_22 ?_
  refine ⟨?_, ?_, ButT.up eka_1 (by omega)⟩
  · rfl
  · rw [eka_1]; exact RepT.num (f := 6) hN.2.2.2.2.2.1 (by omega) hj h8
set_option maxHeartbeats 4000000 in
theorem ok_X1_corked (hN : Tn th rh ka A j K t) (hj : j ≤ 2) (hB : Bok u s t) (hOv : OvN u s)  : Met l yX1_corked (ws_ yX1_corked cX1_corked 3 (some .int)) (RM 2 0 0) (Pc_ G [.ref (A.tw j)] th rh ph ka) (Qp G th rh ph ka (fun r => r = corkedT t)) 0 0 (frG G) := by
  refine m_of (by decide) (Nat.le_of_ble_eq_true rfl) ?_
  intro p_ e_ s_ m_ below_ meth_ c_ B hr hnm ls hl hM
  have hx := B.1
  have hb := B.2.1
  have hM := hM
  have hO := hN.1
  have hW := hN.2.1
  have hR := hN.2.2.2.2.1
  have h8 := hR.1.2
  have h13 := hR.2.1.2
  have loop : ∀ (fu_loop : Nat) (i : Nat) (a : Int32), nP t - i < fu_loop → (i ≤ nP t) → (itn (fun p a => a + t (55 + 4 * p + 3)) i 0 = a) → ∀ (ls : Array Slot) (H : Heap) (locs : List Loc), lv_has ls 3 [(0, .ref (A.tw j)), (1, .int a), (2, .int (nI i))] → Md G th rh ph ka H locs → W p_ l e_ (RM 2 0 0) s_ m_ ([.ref (A.tw j)].toArray) below_ meth_ c_ H locs 0 0 (MQ below_ (Qp G th rh ph ka (fun r => r = corkedT t)) ([.ref (A.tw j)].toArray) s_ 0 0 (frG G)) (F0 m_ 4 ls []) := by
    intro fu_loop
    induction fu_loop with
    | zero => intro i a hfu; exact absurd hfu (Nat.not_lt_zero _)
    | succ fu_loop ih_loop =>
      intro i a hfu_loop hi ha ls H locs hl hM
      refine lv_iload_n hx hb dX1_corked_4 rfl (lv_at hl 2 rfl) ?_
      refine lv_aload_n hx hb dX1_corked_5 rfl (lv_at hl 0 rfl) ?_
      refine r_geti B hM 1 hW.1 rfl (by decide) rfl rfl q124 dX1_corked_6 ?_
      refine r_topv (v := t 2) (hN.2.2.2.2.2.1.1.2.1) ?_
      refine lv_icmp_ge (tgt := 30) hx hb dX1_corked_9 (by decide) (fun c9 => ?_) (fun c9 => ?_)
      · have n9 : nP t ≤ i := ntLe (by rw [hN.2.2.2.2.1.2.1.1]) rfl (by omega) (by omega) c9
        refine lv_iload_n hx hb dX1_corked_30 rfl (lv_at hl 1 rfl) ?_
        refine r_iretp B hr hM dX1_corked_31 ?_
        unfold corkedT
        rw [show nP t = i by omega, ha]
      · have n9 : i < nP t := ntNle (by rw [hN.2.2.2.2.1.2.1.1]) rfl (by omega) (by omega) c9
        refine lv_iload_n hx hb dX1_corked_12 rfl (lv_at hl 1 rfl) ?_
        refine lv_aload_n hx hb dX1_corked_13 rfl (lv_at hl 0 rfl) ?_
        refine r_getq B hM 10 hW.1 rfl (by decide) rfl rfl (hW.2.1 10 _ _ rfl).1 q142 dX1_corked_14 ?_
        refine lv_iload_n hx hb dX1_corked_17 rfl (lv_at hl 2 rfl) ?_
        refine r_zld B hM i (show th (A.ta j 10) = some (43 + 10 * j, .inr (1, 13)) from (hW.2.1 10 _ _ rfl).2) rfl (by omega) (by decide) dX1_corked_18 ?_
        refine r_topv (v := t (55 + 4 * i + 3)) ((hN.2.2.2.2.2.1.2.1 i (by omega)).2.2.2) ?_
        refine k_pe (v := t (55 + 4 * i + 3)) (r_SN (As := [.int (t (55 + 4 * i + 3))]) (rest := [.int a]) B hM (ok_X0_asBit (v := t (55 + 4 * i + 3)) (hB.2.1 i n9).2) cal_X0_asBit q825 rfl hl.1 (Nat.le_of_ble_eq_true rfl) dX1_corked_19 ⟨Nat.le_of_ble_eq_true rfl, Nat.le_of_ble_eq_true rfl⟩ ⟨Nat.le_of_ble_eq_true rfl, Nat.le_of_ble_eq_true rfl⟩) hM (fun H locs hM => ?_)
        refine lv_iadd hx hb dX1_corked_22 ?_
        refine lv_topi (fun v_1 ev_1 => ?_)
        refine lv_istore_n (lv' := [(1, .int v_1), (0, .ref (A.tw j)), (2, .int (nI i))]) hx hb dX1_corked_23 rfl hl (by decide) rfl (fun ls hl => ?_)
        refine lv_iinc (v := nI (i + 1)) (lv' := [(2, .int (nI (i + 1))), (1, .int v_1), (0, .ref (A.tw j))]) hx hb dX1_corked_24 hl (k := 2) rfl (nI_1 _) (by decide) rfl (fun ls hl => ?_)
        refine lv_goto (tgt := 4) hx hb dX1_corked_27 (by decide) ?_
        exact ih_loop (i + 1) v_1 (by omega) (by omega) (by rw [ev_1, ← ha]; rfl) _ _ _ (lv_sub hl [2, 1, 0] rfl) hM
  refine lv_iconst (v := 0) hx hb dX1_corked_0 (by decide) ?_
  refine lv_istore_n (lv' := [(1, .int 0), (0, .ref (A.tw j))]) hx hb dX1_corked_1 rfl hl (by decide) rfl (fun ls hl => ?_)
  refine lv_iconst (v := 0) hx hb dX1_corked_2 (by decide) ?_
  refine lv_istore_n (lv' := [(2, .int 0), (1, .int 0), (0, .ref (A.tw j))]) hx hb dX1_corked_3 rfl hl (by decide) rfl (fun ls hl => ?_)
  exact loop (nP t + 1) 0 0 (by omega) (Nat.zero_le _) rfl _ _ _ (lv_sub hl [2, 1, 0] rfl) hM
set_option maxHeartbeats 4000000 in
theorem ok_X1_all (hN : Tn th rh ka A j K t) (hj : j ≤ 2)  : Met l yX1_all (ws_ yX1_all cX1_all 3 (some .int)) (RM 2 0 0) (Pc_ G [.ref (A.tw j)] th rh ph ka) (Qp G th rh ph ka (fun r => r = allT t)) 0 0 (frG G) := by
  refine m_of (by decide) (Nat.le_of_ble_eq_true rfl) ?_
  intro p_ e_ s_ m_ below_ meth_ c_ B hr hnm ls hl hM
  have hx := B.1
  have hb := B.2.1
  have hM := hM
  have hO := hN.1
  have hW := hN.2.1
  have hR := hN.2.2.2.2.1
  have h8 := hR.1.2
  have h13 := hR.2.1.2
  have loop : ∀ (fu_loop : Nat) (i : Nat) (a : Int32), nC t - i < fu_loop → (i ≤ nC t) → (itn (fun c a => a + fullT t c) i 0 = a) → ∀ (ls : Array Slot) (H : Heap) (locs : List Loc), lv_has ls 3 [(0, .ref (A.tw j)), (1, .int a), (2, .int (nI i))] → Md G th rh ph ka H locs → W p_ l e_ (RM 2 0 0) s_ m_ ([.ref (A.tw j)].toArray) below_ meth_ c_ H locs 0 0 (MQ below_ (Qp G th rh ph ka (fun r => r = allT t)) ([.ref (A.tw j)].toArray) s_ 0 0 (frG G)) (F0 m_ 4 ls []) := by
    intro fu_loop
    induction fu_loop with
    | zero => intro i a hfu; exact absurd hfu (Nat.not_lt_zero _)
    | succ fu_loop ih_loop =>
      intro i a hfu_loop hi ha ls H locs hl hM
      refine lv_iload_n hx hb dX1_all_4 rfl (lv_at hl 2 rfl) ?_
      refine lv_aload_n hx hb dX1_all_5 rfl (lv_at hl 0 rfl) ?_
      refine r_geti B hM 0 hW.1 rfl (by decide) rfl rfl q122 dX1_all_6 ?_
      refine r_topv (v := t 1) (hN.2.2.2.2.2.1.1.1) ?_
      refine lv_icmp_ge (tgt := 30) hx hb dX1_all_9 (by decide) (fun c9 => ?_) (fun c9 => ?_)
      · have n9 : nC t ≤ i := ntLe (by rw [hN.2.2.2.2.1.1.1]) rfl (by omega) (by omega) c9
        refine lv_iload_n hx hb dX1_all_30 rfl (lv_at hl 1 rfl) ?_
        refine r_iretp B hr hM dX1_all_31 ?_
        unfold allT
        rw [show nC t = i by omega, ha]
      · have n9 : i < nC t := ntNle (by rw [hN.2.2.2.2.1.1.1]) rfl (by omega) (by omega) c9
        obtain ⟨kd1, hke1, hkt1⟩ := hN.2.2.2.1 i n9
        obtain ⟨hp1, hC1⟩ := hN.2.2.1.at (Nat.lt_of_lt_of_le n9 hN.2.2.2.2.1.1.2) hke1
        obtain ⟨rc1, hr_1, hrN1, hr01, hr11, hr21, hr31, hg01, hg11, hg21, hg31, hrC1⟩ := gC4 hC1.2.2.2.2
        refine lv_iload_n hx hb dX1_all_12 rfl (lv_at hl 1 rfl) ?_
        refine lv_aload_n hx hb dX1_all_13 rfl (lv_at hl 0 rfl) ?_
        refine r_getq B hM 11 hW.1 rfl (by decide) rfl rfl (hW.2.1 11 _ _ rfl).1 q144 dX1_all_14 ?_
        refine lv_iload_n hx hb dX1_all_17 rfl (lv_at hl 2 rfl) ?_
        refine r_aldq B hM i (show th (A.ta j 11) = some (44 + 10 * j, .inr (6, 8)) from (hW.2.1 11 _ _ rfl).2) rfl (by decide) rfl (by omega) (by decide) hp1 dX1_all_18 ?_
        refine k_pe (v := ka (200 + 8 * j + i) 0 + ka (200 + 8 * j + i) 1 + ka (200 + 8 * j + i) 2) (r_VA (As := []) (rest := [.int a]) B hM (v_full hC1) q760 rfl hl.1 (Nat.le_of_ble_eq_true rfl) dX1_all_19 ⟨Nat.le_of_ble_eq_true rfl, Nat.le_of_ble_eq_true rfl⟩ ⟨Nat.le_of_ble_eq_true rfl, Nat.le_of_ble_eq_true rfl⟩) hM (fun H locs hM => ?_)
        refine r_topv (v := fullT t i) (hN.2.2.2.2.2.1.full n9) ?_
        refine lv_iadd hx hb dX1_all_22 ?_
        refine lv_topi (fun v_1 ev_1 => ?_)
        refine lv_istore_n (lv' := [(1, .int v_1), (0, .ref (A.tw j)), (2, .int (nI i))]) hx hb dX1_all_23 rfl hl (by decide) rfl (fun ls hl => ?_)
        refine lv_iinc (v := nI (i + 1)) (lv' := [(2, .int (nI (i + 1))), (1, .int v_1), (0, .ref (A.tw j))]) hx hb dX1_all_24 hl (k := 2) rfl (nI_1 _) (by decide) rfl (fun ls hl => ?_)
        refine lv_goto (tgt := 4) hx hb dX1_all_27 (by decide) ?_
        exact ih_loop (i + 1) v_1 (by omega) (by omega) (by rw [ev_1, ← ha]; rfl) _ _ _ (lv_sub hl [2, 1, 0] rfl) hM
  refine lv_iconst (v := 0) hx hb dX1_all_0 (by decide) ?_
  refine lv_istore_n (lv' := [(1, .int 0), (0, .ref (A.tw j))]) hx hb dX1_all_1 rfl hl (by decide) rfl (fun ls hl => ?_)
  refine lv_iconst (v := 0) hx hb dX1_all_2 (by decide) ?_
  refine lv_istore_n (lv' := [(2, .int 0), (1, .int 0), (0, .ref (A.tw j))]) hx hb dX1_all_3 rfl hl (by decide) rfl (fun ls hl => ?_)
  exact loop (nC t + 1) 0 0 (by omega) (Nat.zero_le _) rfl _ _ _ (lv_sub hl [2, 1, 0] rfl) hM
set_option maxHeartbeats 4000000 in
theorem ok_X1_withWine (hN : Tn th rh ka A j K t) (hj : j ≤ 2)  : Met l yX1_withWine (ws_ yX1_withWine cX1_withWine 3 (some .int)) (RM 2 0 0) (Pc_ G [.ref (A.tw j)] th rh ph ka) (Qp G th rh ph ka (fun r => r = wineT t)) 0 0 (frG G) := by
  refine m_of (by decide) (Nat.le_of_ble_eq_true rfl) ?_
  intro p_ e_ s_ m_ below_ meth_ c_ B hr hnm ls hl hM
  have hx := B.1
  have hb := B.2.1
  have hM := hM
  have hO := hN.1
  have hW := hN.2.1
  have hR := hN.2.2.2.2.1
  have h8 := hR.1.2
  have h13 := hR.2.1.2
  have loop : ∀ (fu_loop : Nat) (i : Nat) (a : Int32), nC t - i < fu_loop → (i ≤ nC t) → (itn (fun c a => a ||| (if 0 < fullT t c then (1 : Int32) <<< (nI c &&& 31) else 0)) i 0 = a) → ∀ (ls : Array Slot) (H : Heap) (locs : List Loc), lv_has ls 3 [(0, .ref (A.tw j)), (1, .int a), (2, .int (nI i))] → Md G th rh ph ka H locs → W p_ l e_ (RM 2 0 0) s_ m_ ([.ref (A.tw j)].toArray) below_ meth_ c_ H locs 0 0 (MQ below_ (Qp G th rh ph ka (fun r => r = wineT t)) ([.ref (A.tw j)].toArray) s_ 0 0 (frG G)) (F0 m_ 4 ls []) := by
    intro fu_loop
    induction fu_loop with
    | zero => intro i a hfu; exact absurd hfu (Nat.not_lt_zero _)
    | succ fu_loop ih_loop =>
      intro i a hfu_loop hi ha ls H locs hl hM
      refine lv_iload_n hx hb dX1_withWine_4 rfl (lv_at hl 2 rfl) ?_
      refine lv_aload_n hx hb dX1_withWine_5 rfl (lv_at hl 0 rfl) ?_
      refine r_geti B hM 0 hW.1 rfl (by decide) rfl rfl q122 dX1_withWine_6 ?_
      refine r_topv (v := t 1) (hN.2.2.2.2.2.1.1.1) ?_
      refine lv_icmp_ge (tgt := 40) hx hb dX1_withWine_9 (by decide) (fun c9 => ?_) (fun c9 => ?_)
      · have n9 : nC t ≤ i := ntLe (by rw [hN.2.2.2.2.1.1.1]) rfl (by omega) (by omega) c9
        refine lv_iload_n hx hb dX1_withWine_40 rfl (lv_at hl 1 rfl) ?_
        refine r_iretp B hr hM dX1_withWine_41 ?_
        unfold wineT
        rw [show nC t = i by omega, ha]
      · have n9 : i < nC t := ntNle (by rw [hN.2.2.2.2.1.1.1]) rfl (by omega) (by omega) c9
        obtain ⟨kd1, hke1, hkt1⟩ := hN.2.2.2.1 i n9
        obtain ⟨hp1, hC1⟩ := hN.2.2.1.at (Nat.lt_of_lt_of_le n9 hN.2.2.2.2.1.1.2) hke1
        obtain ⟨rc1, hr_1, hrN1, hr01, hr11, hr21, hr31, hg01, hg11, hg21, hg31, hrC1⟩ := gC4 hC1.2.2.2.2
        refine lv_iload_n hx hb dX1_withWine_12 rfl (lv_at hl 1 rfl) ?_
        refine lv_aload_n hx hb dX1_withWine_13 rfl (lv_at hl 0 rfl) ?_
        refine r_getq B hM 11 hW.1 rfl (by decide) rfl rfl (hW.2.1 11 _ _ rfl).1 q144 dX1_withWine_14 ?_
        refine lv_iload_n hx hb dX1_withWine_17 rfl (lv_at hl 2 rfl) ?_
        refine r_aldq B hM i (show th (A.ta j 11) = some (44 + 10 * j, .inr (6, 8)) from (hW.2.1 11 _ _ rfl).2) rfl (by decide) rfl (by omega) (by decide) hp1 dX1_withWine_18 ?_
        refine k_pe (v := ka (200 + 8 * j + i) 0 + ka (200 + 8 * j + i) 1 + ka (200 + 8 * j + i) 2) (r_VA (As := []) (rest := [.int a]) B hM (v_full hC1) q760 rfl hl.1 (Nat.le_of_ble_eq_true rfl) dX1_withWine_19 ⟨Nat.le_of_ble_eq_true rfl, Nat.le_of_ble_eq_true rfl⟩ ⟨Nat.le_of_ble_eq_true rfl, Nat.le_of_ble_eq_true rfl⟩) hM (fun H locs hM => ?_)
        refine r_topv (v := fullT t i) (hN.2.2.2.2.2.1.full n9) ?_
        refine lv_if_le (tgt := 31) hx hb dX1_withWine_22 (by decide) (fun c22 => ?_) (fun c22 => ?_)
        · refine lv_iconst (v := 0) hx hb dX1_withWine_31 (by decide) ?_
          refine lv_ior hx hb dX1_withWine_32 ?_
          refine lv_topi (fun v_1 ev_1 => ?_)
          refine lv_istore_n (lv' := [(1, .int v_1), (0, .ref (A.tw j)), (2, .int (nI i))]) hx hb dX1_withWine_33 rfl hl (by decide) rfl (fun ls hl => ?_)
          refine lv_iinc (v := nI (i + 1)) (lv' := [(2, .int (nI (i + 1))), (1, .int v_1), (0, .ref (A.tw j))]) hx hb dX1_withWine_34 hl (k := 2) rfl (nI_1 _) (by decide) rfl (fun ls hl => ?_)
          refine lv_goto (tgt := 4) hx hb dX1_withWine_37 (by decide) ?_
          exact ih_loop (i + 1) v_1 (by omega) (by omega) (by rw [ev_1, ← ha]; show _ ||| (if 0 < fullT t i then _ else 0) = _; rw [if_neg (i_nlt.mpr c22)]) _ _ _ (lv_sub hl [2, 1, 0] rfl) hM
        · refine lv_iconst (v := 1) hx hb dX1_withWine_25 (by decide) ?_
          refine lv_iload_n hx hb dX1_withWine_26 rfl (lv_at hl 2 rfl) ?_
          refine lv_ishl hx hb dX1_withWine_27 ?_
          refine lv_goto (tgt := 32) hx hb dX1_withWine_28 (by decide) ?_
          refine lv_ior hx hb dX1_withWine_32 ?_
          refine lv_topi (fun v_2 ev_2 => ?_)
          refine lv_istore_n (lv' := [(1, .int v_2), (0, .ref (A.tw j)), (2, .int (nI i))]) hx hb dX1_withWine_33 rfl hl (by decide) rfl (fun ls hl => ?_)
          refine lv_iinc (v := nI (i + 1)) (lv' := [(2, .int (nI (i + 1))), (1, .int v_2), (0, .ref (A.tw j))]) hx hb dX1_withWine_34 hl (k := 2) rfl (nI_1 _) (by decide) rfl (fun ls hl => ?_)
          refine lv_goto (tgt := 4) hx hb dX1_withWine_37 (by decide) ?_
          exact ih_loop (i + 1) v_2 (by omega) (by omega) (by rw [ev_2, ← ha]; show _ ||| (if 0 < fullT t i then _ else 0) = _; rw [if_pos (i_nle.mp c22)]) _ _ _ (lv_sub hl [2, 1, 0] rfl) hM
  refine lv_iconst (v := 0) hx hb dX1_withWine_0 (by decide) ?_
  refine lv_istore_n (lv' := [(1, .int 0), (0, .ref (A.tw j))]) hx hb dX1_withWine_1 rfl hl (by decide) rfl (fun ls hl => ?_)
  refine lv_iconst (v := 0) hx hb dX1_withWine_2 (by decide) ?_
  refine lv_istore_n (lv' := [(2, .int 0), (1, .int 0), (0, .ref (A.tw j))]) hx hb dX1_withWine_3 rfl hl (by decide) rfl (fun ls hl => ?_)
  exact loop (nC t + 1) 0 0 (by omega) (Nat.zero_le _) rfl _ _ _ (lv_sub hl [2, 1, 0] rfl) hM
theorem layT_rw {t : Row} {p : Nat} {a b w : Int32} : layT t p a b w = rw1 (rw1 (rw1 (rw1 t (55 + 4 * p + 0) a) (55 + 4 * p + 1) b) (55 + 4 * p + 2) w) (55 + 4 * p + 3) 0 := by
  funext i
  unfold layT rw1
  by_cases c0 : i = 55 + 4 * p + 0
  · rw [if_pos c0, va_up_ne _ _ (by omega), va_up_ne _ _ (by omega), va_up_ne _ _ (by omega), c0, va_up_self]
  · rw [if_neg c0]
    by_cases c1 : i = 55 + 4 * p + 1
    · rw [if_pos c1, va_up_ne _ _ (by omega), va_up_ne _ _ (by omega), c1, va_up_self]
    · rw [if_neg c1]
      by_cases c2 : i = 55 + 4 * p + 2
      · rw [if_pos c2, va_up_ne _ _ (by omega), c2, va_up_self]
      · rw [if_neg c2]
        by_cases c3 : i = 55 + 4 * p + 3
        · rw [if_pos c3, c3, va_up_self]
        · rw [if_neg c3, va_up_ne _ _ c3, va_up_ne _ _ c2, va_up_ne _ _ c1, va_up_ne _ _ c0]
set_option maxHeartbeats 4000000 in
theorem ok_X1_digs (hN : Tn th rh ka A j K t) (hj : j ≤ 2) (hp13 : nP t < 13) (a b w : Int32) : Met l yX1_digs (ws_ yX1_digs cX1_digs 4 none) (RM 1 0 0) (Pc_ G [.ref (A.tw j), .int a, .int b, .int w] th rh ph ka) (Qv G th rh ph (fun ka' => RepT ka' j (rw1 (layT t (nP t) a b w) 2 (t 2 + 1)) ∧ ButT j ka ka')) 0 0 (frG G) := by
  refine m_of (by decide) (Nat.le_of_ble_eq_true rfl) ?_
  intro p_ e_ s_ m_ below_ meth_ c_ B hr hnm ls hl hM
  have hx := B.1
  have hb := B.2.1
  have hM := hM
  have hO := hN.1
  have hW := hN.2.1
  have hR := hN.2.2.2.2.1
  have h8 := hR.1.2
  have h13 := hR.2.1.2
  refine lv_aload_n hx hb dX1_digs_0 rfl (lv_at hl 0 rfl) ?_
  refine r_getq B hM 7 hW.1 rfl (by decide) rfl rfl (hW.2.1 7 _ _ rfl).1 q136 dX1_digs_1 ?_
  refine lv_aload_n hx hb dX1_digs_4 rfl (lv_at hl 0 rfl) ?_
  refine r_geti B hM 1 hW.1 rfl (by decide) rfl rfl q124 dX1_digs_5 ?_
  refine r_topv (v := t 2) (hN.2.2.2.2.2.1.1.2.1) ?_
  refine lv_iload_n hx hb dX1_digs_8 rfl (lv_at hl 1 rfl) ?_
  refine r_ist B hM (nP t) (show th (A.ta j 7) = some (40 + 10 * j, .inr (0, 13)) from (hW.2.1 7 _ _ rfl).2) (by rw [hN.2.2.2.2.1.2.1.1]) (by omega) (by decide) dX1_digs_9 (fun ka_1 H locs eka_1 hM => ?_)
  refine lv_aload_n hx hb dX1_digs_10 rfl (lv_at hl 0 rfl) ?_
  refine r_getq B hM 8 hW.1 rfl (by decide) rfl rfl (hW.2.1 8 _ _ rfl).1 q138 dX1_digs_11 ?_
  refine lv_aload_n hx hb dX1_digs_14 rfl (lv_at hl 0 rfl) ?_
  refine r_geti B hM 1 hW.1 rfl (by decide) rfl rfl q124 dX1_digs_15 ?_
  refine r_topv (v := t 2) (by rw [eka_1, up2_a _ _ _ (by omega)]; exact hN.2.2.2.2.2.1.1.2.1) ?_
  refine lv_iload_n hx hb dX1_digs_18 rfl (lv_at hl 2 rfl) ?_
  refine r_ist B hM (nP t) (show th (A.ta j 8) = some (41 + 10 * j, .inr (0, 13)) from (hW.2.1 8 _ _ rfl).2) (by rw [hN.2.2.2.2.1.2.1.1]) (by omega) (by decide) dX1_digs_19 (fun ka_2 H locs eka_2 hM => ?_)
  refine lv_aload_n hx hb dX1_digs_20 rfl (lv_at hl 0 rfl) ?_
  refine r_getq B hM 9 hW.1 rfl (by decide) rfl rfl (hW.2.1 9 _ _ rfl).1 q140 dX1_digs_21 ?_
  refine lv_aload_n hx hb dX1_digs_24 rfl (lv_at hl 0 rfl) ?_
  refine r_geti B hM 1 hW.1 rfl (by decide) rfl rfl q124 dX1_digs_25 ?_
  refine r_topv (v := t 2) (by rw [eka_2, up2_a _ _ _ (by omega), eka_1, up2_a _ _ _ (by omega)]; exact hN.2.2.2.2.2.1.1.2.1) ?_
  refine lv_iload_n hx hb dX1_digs_28 rfl (lv_at hl 3 rfl) ?_
  refine r_ist B hM (nP t) (show th (A.ta j 9) = some (42 + 10 * j, .inr (0, 13)) from (hW.2.1 9 _ _ rfl).2) (by rw [hN.2.2.2.2.1.2.1.1]) (by omega) (by decide) dX1_digs_29 (fun ka_3 H locs eka_3 hM => ?_)
  refine lv_aload_n hx hb dX1_digs_30 rfl (lv_at hl 0 rfl) ?_
  refine r_getq B hM 10 hW.1 rfl (by decide) rfl rfl (hW.2.1 10 _ _ rfl).1 q142 dX1_digs_31 ?_
  refine lv_aload_n hx hb dX1_digs_34 rfl (lv_at hl 0 rfl) ?_
  refine r_geti B hM 1 hW.1 rfl (by decide) rfl rfl q124 dX1_digs_35 ?_
  refine r_topv (v := t 2) (by rw [eka_3, up2_a _ _ _ (by omega), eka_2, up2_a _ _ _ (by omega), eka_1, up2_a _ _ _ (by omega)]; exact hN.2.2.2.2.2.1.1.2.1) ?_
  refine lv_iconst (v := 0) hx hb dX1_digs_38 (by decide) ?_
  refine r_zst B hM (nP t) (show th (A.ta j 10) = some (43 + 10 * j, .inr (1, 13)) from (hW.2.1 10 _ _ rfl).2) (by rw [hN.2.2.2.2.1.2.1.1]) (by omega) (by decide) dX1_digs_39 (fun ka_4 H locs eka_4 hM => ?_)
  refine lv_aload_n hx hb dX1_digs_40 rfl (lv_at hl 0 rfl) ?_
  refine lv_dup hx hb dX1_digs_41 rfl ?_
  refine r_geti B hM 1 hW.1 rfl (by decide) rfl rfl q124 dX1_digs_42 ?_
  refine r_topv (v := t 2) (by rw [eka_4, up2_a _ _ _ (by omega), eka_3, up2_a _ _ _ (by omega), eka_2, up2_a _ _ _ (by omega), eka_1, up2_a _ _ _ (by omega)]; exact hN.2.2.2.2.2.1.1.2.1) ?_
  refine lv_iconst (v := 1) hx hb dX1_digs_45 (by decide) ?_
  refine lv_iadd hx hb dX1_digs_46 ?_
  refine r_puti B hM 1 hW.1 rfl (by decide) rfl rfl q124 dX1_digs_47 (fun ka_5 H locs eka_5 hM => ?_)
  refine r_vret B hr hM dX1_digs_50 ?_
  refine ⟨?_, ((((ButT.up eka_1 (by omega)).trans (ButT.up eka_2 (by omega))).trans (ButT.up eka_3 (by omega))).trans (ButT.up eka_4 (by omega))).trans (ButT.up eka_5 (by omega))⟩
  rw [layT_rw, eka_5, eka_4, eka_3, eka_2, eka_1]
  refine RepT.num (f := 1) ?_ (by omega) hj (by rw [nC_rw (by omega), nC_rw (by omega), nC_rw (by omega), nC_rw (by omega)]; exact h8)
  exact RepT.pipe (q := 3) (RepT.pipe (q := 2) (RepT.pipe (q := 1) (RepT.pipe (q := 0) hN.2.2.2.2.2.1 hp13 (by decide) hj h8) hp13 (by decide) hj (by rw [nC_rw (by omega)]; exact h8)) hp13 (by decide) hj (by rw [nC_rw (by omega), nC_rw (by omega)]; exact h8)) hp13 (by decide) hj (by rw [nC_rw (by omega), nC_rw (by omega), nC_rw (by omega)]; exact h8)
set_option maxHeartbeats 4000000 in
theorem ok_X1_areJoined (hN : Tn th rh ka A j K t) (hj : j ≤ 2) (a b : Nat) : Met l yX1_areJoined (ws_ yX1_areJoined cX1_areJoined 4 (some .boolean)) (RM 1 0 0) (Pc_ G [.ref (A.tw j), .int (nI a), .int (nI b)] th rh ph ka) (Qp G th rh ph ka (fun r => (r = 1 ∧ joinT t a b (nP t)) ∨ (r = 0 ∧ ¬ joinT t a b (nP t)))) 0 0 (frG G) := by
  refine m_of (by decide) (Nat.le_of_ble_eq_true rfl) ?_
  intro p_ e_ s_ m_ below_ meth_ c_ B hr hnm ls hl hM
  have hx := B.1
  have hb := B.2.1
  have hM := hM
  have hO := hN.1
  have hW := hN.2.1
  have hR := hN.2.2.2.2.1
  have h8 := hR.1.2
  have h13 := hR.2.1.2
  have loop : ∀ (fu_loop : Nat) (i : Nat), nP t - i < fu_loop → (i ≤ nP t) → (¬ joinT t a b i) → ∀ (ls : Array Slot) (H : Heap) (locs : List Loc), lv_has ls 4 [(0, .ref (A.tw j)), (1, .int (nI a)), (2, .int (nI b)), (3, .int (nI i))] → Md G th rh ph ka H locs → W p_ l e_ (RM 1 0 0) s_ m_ ([.ref (A.tw j), .int (nI a), .int (nI b)].toArray) below_ meth_ c_ H locs 0 0 (MQ below_ (Qp G th rh ph ka (fun r => (r = 1 ∧ joinT t a b (nP t)) ∨ (r = 0 ∧ ¬ joinT t a b (nP t)))) ([.ref (A.tw j), .int (nI a), .int (nI b)].toArray) s_ 0 0 (frG G)) (F0 m_ 2 ls []) := by
    intro fu_loop
    induction fu_loop with
    | zero => intro i hfu; exact absurd hfu (Nat.not_lt_zero _)
    | succ fu_loop ih_loop =>
      intro i hfu_loop hi hno ls H locs hl hM
      refine lv_iload_n hx hb dX1_areJoined_2 rfl (lv_at hl 3 rfl) ?_
      refine lv_aload_n hx hb dX1_areJoined_3 rfl (lv_at hl 0 rfl) ?_
      refine r_geti B hM 1 hW.1 rfl (by decide) rfl rfl q124 dX1_areJoined_4 ?_
      refine r_topv (v := t 2) (hN.2.2.2.2.2.1.1.2.1) ?_
      refine lv_icmp_ge (tgt := 58) hx hb dX1_areJoined_7 (by decide) (fun c7 => ?_) (fun c7 => ?_)
      · have n7 : nP t ≤ i := ntLe (by rw [hN.2.2.2.2.1.2.1.1]) rfl (by omega) (by omega) c7
        refine lv_iconst (v := 0) hx hb dX1_areJoined_58 (by decide) ?_
        refine r_zretp B hr hM dX1_areJoined_59 (Or.inl rfl) ?_
        refine Or.inr ⟨rfl, ?_⟩
        rw [show nP t = i by omega]
        exact hno
      · have n7 : i < nP t := ntNle (by rw [hN.2.2.2.2.1.2.1.1]) rfl (by omega) (by omega) c7
        refine lv_aload_n hx hb dX1_areJoined_10 rfl (lv_at hl 0 rfl) ?_
        refine r_getq B hM 7 hW.1 rfl (by decide) rfl rfl (hW.2.1 7 _ _ rfl).1 q136 dX1_areJoined_11 ?_
        refine lv_iload_n hx hb dX1_areJoined_14 rfl (lv_at hl 3 rfl) ?_
        refine r_ild B hM i (show th (A.ta j 7) = some (40 + 10 * j, .inr (0, 13)) from (hW.2.1 7 _ _ rfl).2) rfl (by omega) (by decide) dX1_areJoined_15 ?_
        refine r_topv (v := t (55 + 4 * i + 0)) ((hN.2.2.2.2.2.1.2.1 i (by omega)).1) ?_
        refine lv_iload_n hx hb dX1_areJoined_16 rfl (lv_at hl 1 rfl) ?_
        refine lv_icmp_ne (tgt := 30) hx hb dX1_areJoined_17 (by decide) (fun c17 => ?_) (fun c17 => ?_)
        · refine lv_aload_n hx hb dX1_areJoined_30 rfl (lv_at hl 0 rfl) ?_
          refine r_getq B hM 7 hW.1 rfl (by decide) rfl rfl (hW.2.1 7 _ _ rfl).1 q136 dX1_areJoined_31 ?_
          refine lv_iload_n hx hb dX1_areJoined_34 rfl (lv_at hl 3 rfl) ?_
          refine r_ild B hM i (show th (A.ta j 7) = some (40 + 10 * j, .inr (0, 13)) from (hW.2.1 7 _ _ rfl).2) rfl (by omega) (by decide) dX1_areJoined_35 ?_
          refine r_topv (v := t (55 + 4 * i + 0)) ((hN.2.2.2.2.2.1.2.1 i (by omega)).1) ?_
          refine lv_iload_n hx hb dX1_areJoined_36 rfl (lv_at hl 2 rfl) ?_
          refine lv_icmp_ne (tgt := 52) hx hb dX1_areJoined_37 (by decide) (fun c37 => ?_) (fun c37 => ?_)
          · have hno1 : ¬ ((t (55 + 4 * i + 0) = nI a ∧ t (55 + 4 * i + 1) = nI b) ∨ (t (55 + 4 * i + 0) = nI b ∧ t (55 + 4 * i + 1) = nI a)) := fun z => z.elim (fun z => c17 z.1) (fun z => c37 z.1)
            refine lv_iinc (v := nI (i + 1)) (lv' := [(3, .int (nI (i + 1))), (0, .ref (A.tw j)), (1, .int (nI a)), (2, .int (nI b))]) hx hb dX1_areJoined_52 hl (k := 3) rfl (nI_1 _) (by decide) rfl (fun ls hl => ?_)
            refine lv_goto (tgt := 2) hx hb dX1_areJoined_55 (by decide) ?_
            exact ih_loop (i + 1) (by omega) (by omega) (fun z => (joinT_s.mp z).elim hno (fun z => hno1 z)) _ _ _ (lv_sub hl [1, 2, 3, 0] rfl) hM
          · refine lv_aload_n hx hb dX1_areJoined_40 rfl (lv_at hl 0 rfl) ?_
            refine r_getq B hM 8 hW.1 rfl (by decide) rfl rfl (hW.2.1 8 _ _ rfl).1 q138 dX1_areJoined_41 ?_
            refine lv_iload_n hx hb dX1_areJoined_44 rfl (lv_at hl 3 rfl) ?_
            refine r_ild B hM i (show th (A.ta j 8) = some (41 + 10 * j, .inr (0, 13)) from (hW.2.1 8 _ _ rfl).2) rfl (by omega) (by decide) dX1_areJoined_45 ?_
            refine r_topv (v := t (55 + 4 * i + 1)) ((hN.2.2.2.2.2.1.2.1 i (by omega)).2.1) ?_
            refine lv_iload_n hx hb dX1_areJoined_46 rfl (lv_at hl 1 rfl) ?_
            refine lv_icmp_ne (tgt := 52) hx hb dX1_areJoined_47 (by decide) (fun c47 => ?_) (fun c47 => ?_)
            · have hno1 : ¬ ((t (55 + 4 * i + 0) = nI a ∧ t (55 + 4 * i + 1) = nI b) ∨ (t (55 + 4 * i + 0) = nI b ∧ t (55 + 4 * i + 1) = nI a)) := fun z => z.elim (fun z => c17 z.1) (fun z => c47 z.2)
              refine lv_iinc (v := nI (i + 1)) (lv' := [(3, .int (nI (i + 1))), (0, .ref (A.tw j)), (1, .int (nI a)), (2, .int (nI b))]) hx hb dX1_areJoined_52 hl (k := 3) rfl (nI_1 _) (by decide) rfl (fun ls hl => ?_)
              refine lv_goto (tgt := 2) hx hb dX1_areJoined_55 (by decide) ?_
              exact ih_loop (i + 1) (by omega) (by omega) (fun z => (joinT_s.mp z).elim hno (fun z => hno1 z)) _ _ _ (lv_sub hl [1, 2, 3, 0] rfl) hM
            · refine lv_iconst (v := 1) hx hb dX1_areJoined_50 (by decide) ?_
              refine r_zretp B hr hM dX1_areJoined_51 (Or.inr rfl) ?_
              exact Or.inl ⟨rfl, i, n7, Or.inr ⟨c37, c47⟩⟩
        · refine lv_aload_n hx hb dX1_areJoined_20 rfl (lv_at hl 0 rfl) ?_
          refine r_getq B hM 8 hW.1 rfl (by decide) rfl rfl (hW.2.1 8 _ _ rfl).1 q138 dX1_areJoined_21 ?_
          refine lv_iload_n hx hb dX1_areJoined_24 rfl (lv_at hl 3 rfl) ?_
          refine r_ild B hM i (show th (A.ta j 8) = some (41 + 10 * j, .inr (0, 13)) from (hW.2.1 8 _ _ rfl).2) rfl (by omega) (by decide) dX1_areJoined_25 ?_
          refine r_topv (v := t (55 + 4 * i + 1)) ((hN.2.2.2.2.2.1.2.1 i (by omega)).2.1) ?_
          refine lv_iload_n hx hb dX1_areJoined_26 rfl (lv_at hl 2 rfl) ?_
          refine lv_icmp_eq (tgt := 50) hx hb dX1_areJoined_27 (by decide) (fun c27 => ?_) (fun c27 => ?_)
          · refine lv_iconst (v := 1) hx hb dX1_areJoined_50 (by decide) ?_
            refine r_zretp B hr hM dX1_areJoined_51 (Or.inr rfl) ?_
            exact Or.inl ⟨rfl, i, n7, Or.inl ⟨c17, c27⟩⟩
          · refine lv_aload_n hx hb dX1_areJoined_30 rfl (lv_at hl 0 rfl) ?_
            refine r_getq B hM 7 hW.1 rfl (by decide) rfl rfl (hW.2.1 7 _ _ rfl).1 q136 dX1_areJoined_31 ?_
            refine lv_iload_n hx hb dX1_areJoined_34 rfl (lv_at hl 3 rfl) ?_
            refine r_ild B hM i (show th (A.ta j 7) = some (40 + 10 * j, .inr (0, 13)) from (hW.2.1 7 _ _ rfl).2) rfl (by omega) (by decide) dX1_areJoined_35 ?_
            refine r_topv (v := t (55 + 4 * i + 0)) ((hN.2.2.2.2.2.1.2.1 i (by omega)).1) ?_
            refine lv_iload_n hx hb dX1_areJoined_36 rfl (lv_at hl 2 rfl) ?_
            refine lv_icmp_ne (tgt := 52) hx hb dX1_areJoined_37 (by decide) (fun c37 => ?_) (fun c37 => ?_)
            · have hno1 : ¬ ((t (55 + 4 * i + 0) = nI a ∧ t (55 + 4 * i + 1) = nI b) ∨ (t (55 + 4 * i + 0) = nI b ∧ t (55 + 4 * i + 1) = nI a)) := fun z => z.elim (fun z => c27 z.2) (fun z => c37 z.1)
              refine lv_iinc (v := nI (i + 1)) (lv' := [(3, .int (nI (i + 1))), (0, .ref (A.tw j)), (1, .int (nI a)), (2, .int (nI b))]) hx hb dX1_areJoined_52 hl (k := 3) rfl (nI_1 _) (by decide) rfl (fun ls hl => ?_)
              refine lv_goto (tgt := 2) hx hb dX1_areJoined_55 (by decide) ?_
              exact ih_loop (i + 1) (by omega) (by omega) (fun z => (joinT_s.mp z).elim hno (fun z => hno1 z)) _ _ _ (lv_sub hl [1, 2, 3, 0] rfl) hM
            · refine lv_aload_n hx hb dX1_areJoined_40 rfl (lv_at hl 0 rfl) ?_
              refine r_getq B hM 8 hW.1 rfl (by decide) rfl rfl (hW.2.1 8 _ _ rfl).1 q138 dX1_areJoined_41 ?_
              refine lv_iload_n hx hb dX1_areJoined_44 rfl (lv_at hl 3 rfl) ?_
              refine r_ild B hM i (show th (A.ta j 8) = some (41 + 10 * j, .inr (0, 13)) from (hW.2.1 8 _ _ rfl).2) rfl (by omega) (by decide) dX1_areJoined_45 ?_
              refine r_topv (v := t (55 + 4 * i + 1)) ((hN.2.2.2.2.2.1.2.1 i (by omega)).2.1) ?_
              refine lv_iload_n hx hb dX1_areJoined_46 rfl (lv_at hl 1 rfl) ?_
              refine lv_icmp_ne (tgt := 52) hx hb dX1_areJoined_47 (by decide) (fun c47 => ?_) (fun c47 => ?_)
              · have hno1 : ¬ ((t (55 + 4 * i + 0) = nI a ∧ t (55 + 4 * i + 1) = nI b) ∨ (t (55 + 4 * i + 0) = nI b ∧ t (55 + 4 * i + 1) = nI a)) := fun z => z.elim (fun z => c27 z.2) (fun z => c47 z.2)
                refine lv_iinc (v := nI (i + 1)) (lv' := [(3, .int (nI (i + 1))), (0, .ref (A.tw j)), (1, .int (nI a)), (2, .int (nI b))]) hx hb dX1_areJoined_52 hl (k := 3) rfl (nI_1 _) (by decide) rfl (fun ls hl => ?_)
                refine lv_goto (tgt := 2) hx hb dX1_areJoined_55 (by decide) ?_
                exact ih_loop (i + 1) (by omega) (by omega) (fun z => (joinT_s.mp z).elim hno (fun z => hno1 z)) _ _ _ (lv_sub hl [1, 2, 3, 0] rfl) hM
              · refine lv_iconst (v := 1) hx hb dX1_areJoined_50 (by decide) ?_
                refine r_zretp B hr hM dX1_areJoined_51 (Or.inr rfl) ?_
                exact Or.inl ⟨rfl, i, n7, Or.inr ⟨c37, c47⟩⟩
  refine lv_iconst (v := 0) hx hb dX1_areJoined_0 (by decide) ?_
  refine lv_istore_n (lv' := [(3, .int 0), (0, .ref (A.tw j)), (1, .int (nI a)), (2, .int (nI b))]) hx hb dX1_areJoined_1 rfl hl (by decide) rfl (fun ls hl => ?_)
  exact loop (nP t + 1) 0 (by omega) (Nat.zero_le _) joinT_0 _ _ _ (lv_sub hl [1, 2, 3, 0] rfl) hM
end
