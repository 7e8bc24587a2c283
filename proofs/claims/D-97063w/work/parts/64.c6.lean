/-! the component: what runs -/
set_option maxRecDepth 100000
section
variable {l : Launch} {G : GG} {th : Th} {rh : Rh} {ph : Ph} {ka : Ka} {A : XA} {j : Nat} {K : Nat → Option Nat} {t : Row} {u s : Nat}
set_option maxHeartbeats 4000000 in
theorem ok_X1_flow (hN : Tn th rh ka A j K t) (hnow : rh 0 1 = some (A.tw j)) (hj : j ≤ 2) (hB : Bok u s t) (hOv : OvN u s) {p : Nat} (hp : p < nP t) : Met l yX1_flow (ws_ yX1_flow cX1_flow 8 (some .int)) (RM 108 0 0) (Pc_ G [.ref (A.tw j), .int (nI p)] th rh ph ka) (Qi G th rh ph (fun r ka' => r = (if levelT t (pB t p) < levelT t (pA t p) then runsT t p else -runsT t p) ∧ But [6] ka ka')) 0 0 (frG G) := by
  refine m_of (by decide) (Nat.le_of_ble_eq_true rfl) ?_
  intro p_ e_ s_ m_ below_ meth_ c_ B hr hnm ls hl hM
  have hx := B.1
  have hb := B.2.1
  have hM := hM
  have hO := hN.1
  have hW := hN.2.1
  have hR := hN.2.2.2.2.1
  have h8 := hR.1.2
  have h13 := hR.2.1.2
  obtain ⟨hPA, hA, hPB, hBB⟩ := hR.2.2.2.1 p hp
  obtain ⟨kd1, hke1, hkt1⟩ := hN.2.2.2.1 (pA t p) hA
  obtain ⟨hp1, hC1⟩ := hN.2.2.1.at (Nat.lt_of_lt_of_le hA hN.2.2.2.2.1.1.2) hke1
  obtain ⟨rc1, hr_1, hrN1, hr01, hr11, hr21, hr31, hg01, hg11, hg21, hg31, hrC1⟩ := gC4 hC1.2.2.2.2
  obtain ⟨kd2, hke2, hkt2⟩ := hN.2.2.2.1 (pB t p) hBB
  obtain ⟨hp2, hC2⟩ := hN.2.2.1.at (Nat.lt_of_lt_of_le hBB hN.2.2.2.2.1.1.2) hke2
  obtain ⟨rc2, hr_2, hrN2, hr02, hr12, hr22, hr32, hg02, hg12, hg22, hg32, hrC2⟩ := gC4 hC2.2.2.2.2
  refine lv_aload_n hx hb dX1_flow_0 rfl (lv_at hl 0 rfl) ?_
  refine r_getq B hM 11 hW.1 rfl (by decide) rfl rfl (hW.2.1 11 _ _ rfl).1 q144 dX1_flow_1 ?_
  refine lv_aload_n hx hb dX1_flow_4 rfl (lv_at hl 0 rfl) ?_
  refine r_getq B hM 7 hW.1 rfl (by decide) rfl rfl (hW.2.1 7 _ _ rfl).1 q136 dX1_flow_5 ?_
  refine lv_iload_n hx hb dX1_flow_8 rfl (lv_at hl 1 rfl) ?_
  refine r_ild B hM p (show th (A.ta j 7) = some (40 + 10 * j, .inr (0, 13)) from (hW.2.1 7 _ _ rfl).2) rfl (by omega) (by decide) dX1_flow_9 ?_
  refine r_topv (v := t (55 + 4 * p + 0)) ((hN.2.2.2.2.2.1.2.1 p (by omega)).1) ?_
  refine r_aldq B hM (pA t p) (show th (A.ta j 11) = some (44 + 10 * j, .inr (6, 8)) from (hW.2.1 11 _ _ rfl).2) rfl (by decide) (by rw [hPA]) (by omega) (by decide) hp1 dX1_flow_10 ?_
  refine lv_astore_n (lv' := [(2, .ref (A.ce j (pA t p))), (0, .ref (A.tw j)), (1, .int (nI p))]) hx hb dX1_flow_11 rfl hl (by decide) rfl (fun ls hl => ?_)
  refine lv_aload_n hx hb dX1_flow_12 rfl (lv_at hl 1 rfl) ?_
  refine r_getq B hM 11 hW.1 rfl (by decide) rfl rfl (hW.2.1 11 _ _ rfl).1 q144 dX1_flow_13 ?_
  refine lv_aload_n hx hb dX1_flow_16 rfl (lv_at hl 1 rfl) ?_
  refine r_getq B hM 8 hW.1 rfl (by decide) rfl rfl (hW.2.1 8 _ _ rfl).1 q138 dX1_flow_17 ?_
  refine lv_iload_n hx hb dX1_flow_20 rfl (lv_at hl 2 rfl) ?_
  refine r_ild B hM p (show th (A.ta j 8) = some (41 + 10 * j, .inr (0, 13)) from (hW.2.1 8 _ _ rfl).2) rfl (by omega) (by decide) dX1_flow_21 ?_
  refine r_topv (v := t (55 + 4 * p + 1)) ((hN.2.2.2.2.2.1.2.1 p (by omega)).2.1) ?_
  refine r_aldq B hM (pB t p) (show th (A.ta j 11) = some (44 + 10 * j, .inr (6, 8)) from (hW.2.1 11 _ _ rfl).2) rfl (by decide) (by rw [hPB]) (by omega) (by decide) hp2 dX1_flow_22 ?_
  refine lv_astore_n (lv' := [(3, .ref (A.ce j (pB t p))), (2, .ref (A.ce j (pA t p))), (0, .ref (A.tw j)), (1, .int (nI p))]) hx hb dX1_flow_23 rfl hl (by decide) rfl (fun ls hl => ?_)
  refine lv_aload_n hx hb dX1_flow_24 rfl (lv_at hl 1 rfl) ?_
  refine k_i (r_VA (As := []) (rest := []) B hM (v_level hN hnow hj hC1 hA hkt1) q759 rfl hl.1 (Nat.le_of_ble_eq_true rfl) dX1_flow_25 ⟨Nat.le_of_ble_eq_true rfl, Nat.le_of_ble_eq_true rfl⟩ ⟨Nat.le_of_ble_eq_true rfl, Nat.le_of_ble_eq_true rfl⟩) hM (fun r_1 ka_2 H locs p_3 hM => ?_)
  obtain ⟨hr2, hq2⟩ := p_3
  subst hr2
  have hN2 := hN.but hq2 hj (by decide)
  have hb2 : But [6] ka ka_2 := hq2
  refine lv_aload_n hx hb dX1_flow_28 rfl (lv_at hl 0 rfl) ?_
  refine k_i (r_VA (As := []) (rest := [.int (levelT t (pA t p))]) B hM (v_level hN2 hnow hj hC2 hBB hkt2) q759 rfl hl.1 (Nat.le_of_ble_eq_true rfl) dX1_flow_29 ⟨Nat.le_of_ble_eq_true rfl, Nat.le_of_ble_eq_true rfl⟩ ⟨Nat.le_of_ble_eq_true rfl, Nat.le_of_ble_eq_true rfl⟩) hM (fun r_4 ka_5 H locs p_6 hM => ?_)
  obtain ⟨hr5, hq5⟩ := p_6
  subst hr5
  have hN5 := hN2.but hq5 hj (by decide)
  have hb5 : But [6] ka ka_5 := But.trans hb2 hq5
  refine lv_isub hx hb dX1_flow_32 ?_
  refine lv_topi (fun v_7 ev_7 => ?_)
  refine lv_istore (lv' := [(4, .int v_7), (3, .ref (A.ce j (pB t p))), (2, .ref (A.ce j (pA t p))), (0, .ref (A.tw j)), (1, .int (nI p))]) hx hb dX1_flow_33 hl (by decide) rfl (fun ls hl => ?_)
  have hfl := hB.flow hOv hR hp (off := v_7) ev_7
  refine lv_iload hx hb dX1_flow_35 (lv_at hl 0 rfl) ?_
  refine lv_if_le (tgt := 44) hx hb dX1_flow_37 (by decide) (fun c37 => ?_) (fun c37 => ?_)
  · refine lv_aload_n hx hb dX1_flow_44 rfl (lv_at hl 1 rfl) ?_
    refine lv_astore (lv' := [(5, .ref (A.ce j (pB t p))), (4, .int v_7), (3, .ref (A.ce j (pB t p))), (2, .ref (A.ce j (pA t p))), (0, .ref (A.tw j)), (1, .int (nI p))]) hx hb dX1_flow_45 hl (by decide) rfl (fun ls hl => ?_)
    refine lv_iload hx hb dX1_flow_47 (lv_at hl 1 rfl) ?_
    refine lv_if_le (tgt := 56) hx hb dX1_flow_49 (by decide) (fun c49 => ?_) (fun cZ => absurd c37 cZ)
    refine lv_aload_n hx hb dX1_flow_56 rfl (lv_at hl 3 rfl) ?_
    refine lv_astore (lv' := [(6, .ref (A.ce j (pA t p))), (5, .ref (A.ce j (pB t p))), (4, .int v_7), (3, .ref (A.ce j (pB t p))), (2, .ref (A.ce j (pA t p))), (0, .ref (A.tw j)), (1, .int (nI p))]) hx hb dX1_flow_57 hl (by decide) rfl (fun ls hl => ?_)
    refine lv_aload hx hb dX1_flow_59 (lv_at hl 0 rfl) ?_
    refine lv_aload hx hb dX1_flow_61 (lv_at hl 1 rfl) ?_
    refine k_pe (v := ka_5 (200 + 8 * j + (pB t p)) 0 + ka_5 (200 + 8 * j + (pB t p)) 1 + ka_5 (200 + 8 * j + (pB t p)) 2) (r_VA (As := []) (rest := [.ref (A.ce j (pA t p))]) B hM (v_full hC2) q760 rfl hl.1 (Nat.le_of_ble_eq_true rfl) dX1_flow_63 ⟨Nat.le_of_ble_eq_true rfl, Nat.le_of_ble_eq_true rfl⟩ ⟨Nat.le_of_ble_eq_true rfl, Nat.le_of_ble_eq_true rfl⟩) hM (fun H locs hM => ?_)
    refine r_topv (v := fullT t (pB t p)) (hN5.2.2.2.2.2.1.full hBB) ?_
    refine lv_aload_n hx hb dX1_flow_66 rfl (lv_at hl 5 rfl) ?_
    refine r_getq B hM 9 hW.1 rfl (by decide) rfl rfl (hW.2.1 9 _ _ rfl).1 q140 dX1_flow_67 ?_
    refine lv_iload_n hx hb dX1_flow_70 rfl (lv_at hl 6 rfl) ?_
    refine r_ild B hM p (show th (A.ta j 9) = some (42 + 10 * j, .inr (0, 13)) from (hW.2.1 9 _ _ rfl).2) rfl (by omega) (by decide) dX1_flow_71 ?_
    refine r_topv (v := t (55 + 4 * p + 2)) ((hN5.2.2.2.2.2.1.2.1 p (by omega)).2.2.1) ?_
    refine lv_iload hx hb dX1_flow_72 (lv_at hl 2 rfl) ?_
    refine va_mabs hx hb (B.2.2.1.trans hl.1.symm) B.2.2.2.1 (B.ts _ q761) (B.ts _ q762) (B.ts _ q83) (B.ts _ q763) (Nat.le_of_ble_eq_true rfl) (Nat.le_of_ble_eq_true rfl) (Nat.le_of_ble_eq_true rfl) (Nat.le_of_ble_eq_true rfl) dX1_flow_74 ?_
    refine lv_imul hx hb dX1_flow_77 ?_
    refine lv_iconst (v := 2) hx hb dX1_flow_78 (by decide) ?_
    refine lv_idiv hx hb dX1_flow_79 (by decide) ?_
    refine va_mmin hx hb (B.2.2.1.trans hl.1.symm) B.2.2.2.1 (B.ts _ q764) (B.ts _ q500) (B.ts _ q83) (B.ts _ q501) (Nat.le_of_ble_eq_true rfl) (Nat.le_of_ble_eq_true rfl) (Nat.le_of_ble_eq_true rfl) (Nat.le_of_ble_eq_true rfl) dX1_flow_80 ?_
    refine k_pe (v := tkT (nI kd1) (if (((t (55 + 4 * p + 2)) * (if 0 ≤ v_7 then v_7 else 0 - v_7)) / 2) < (fullT t (pB t p)) then (((t (55 + 4 * p + 2)) * (if 0 ≤ v_7 then v_7 else 0 - v_7)) / 2) else (fullT t (pB t p)))) (r_VA (As := [.int (if (((t (55 + 4 * p + 2)) * (if 0 ≤ v_7 then v_7 else 0 - v_7)) / 2) < (fullT t (pB t p)) then (((t (55 + 4 * p + 2)) * (if 0 ≤ v_7 then v_7 else 0 - v_7)) / 2) else (fullT t (pB t p)))]) (rest := []) B hM (v_takes hC1 (if (((t (55 + 4 * p + 2)) * (if 0 ≤ v_7 then v_7 else 0 - v_7)) / 2) < (fullT t (pB t p)) then (((t (55 + 4 * p + 2)) * (if 0 ≤ v_7 then v_7 else 0 - v_7)) / 2) else (fullT t (pB t p)))) q765 rfl hl.1 (Nat.le_of_ble_eq_true rfl) dX1_flow_83 ⟨Nat.le_of_ble_eq_true rfl, Nat.le_of_ble_eq_true rfl⟩ ⟨Nat.le_of_ble_eq_true rfl, Nat.le_of_ble_eq_true rfl⟩) hM (fun H locs hM => ?_)
    refine r_topv (v := takesT t (pA t p) (if (((t (55 + 4 * p + 2)) * (if 0 ≤ v_7 then v_7 else 0 - v_7)) / 2) < (fullT t (pB t p)) then (((t (55 + 4 * p + 2)) * (if 0 ≤ v_7 then v_7 else 0 - v_7)) / 2) else (fullT t (pB t p)))) (by rw [tkT_e, hkt1]) ?_
    refine lv_topi (fun v_8 ev_8 => ?_)
    refine lv_istore (lv' := [(7, .int v_8), (6, .ref (A.ce j (pA t p))), (5, .ref (A.ce j (pB t p))), (4, .int v_7), (3, .ref (A.ce j (pB t p))), (2, .ref (A.ce j (pA t p))), (0, .ref (A.tw j)), (1, .int (nI p))]) hx hb dX1_flow_86 hl (by decide) rfl (fun ls hl => ?_)
    refine lv_aload_n hx hb dX1_flow_88 rfl (lv_at hl 6 rfl) ?_
    refine r_getq B hM 10 hW.1 rfl (by decide) rfl rfl (hW.2.1 10 _ _ rfl).1 q142 dX1_flow_89 ?_
    refine lv_iload_n hx hb dX1_flow_92 rfl (lv_at hl 7 rfl) ?_
    refine r_zld B hM p (show th (A.ta j 10) = some (43 + 10 * j, .inr (1, 13)) from (hW.2.1 10 _ _ rfl).2) rfl (by omega) (by decide) dX1_flow_93 ?_
    refine r_topv (v := t (55 + 4 * p + 3)) ((hN5.2.2.2.2.2.1.2.1 p (by omega)).2.2.2) ?_
    refine lv_if_eq (tgt := 101) hx hb dX1_flow_94 (by decide) (fun c94 => ?_) (fun c94 => ?_)
    · refine lv_iload hx hb dX1_flow_101 (lv_at hl 3 rfl) ?_
      refine lv_if_le (tgt := 111) hx hb dX1_flow_103 (by decide) (fun c103 => ?_) (fun cZ => absurd c37 cZ)
      refine lv_iload hx hb dX1_flow_111 (lv_at hl 0 rfl) ?_
      refine lv_ineg hx hb dX1_flow_113 ?_
      refine r_iret B hr hM dX1_flow_114 ?_
      refine ⟨?_, hb5⟩
      have hlt : ¬ levelT t (pB t p) < levelT t (pA t p) := fun z => absurd (hfl.1.mpr z) (i_nlt.mpr c37)
      have e1 : higherT t p = pB t p := if_neg hlt
      have e2 : lowerT t p = pA t p := if_neg hlt
      rw [if_neg hlt, ← hfl.2.1 c94, e1, e2]
      rw [ev_8]
    · refine lv_iconst (v := 0) hx hb dX1_flow_97 (by decide) ?_
      refine lv_goto (tgt := 114) hx hb dX1_flow_98 (by decide) ?_
      refine r_iret B hr hM dX1_flow_114 ?_
      refine ⟨?_, hb5⟩
      rw [hfl.2.2 c94]
      split <;> rfl
  · refine lv_aload_n hx hb dX1_flow_40 rfl (lv_at hl 2 rfl) ?_
    refine lv_goto (tgt := 45) hx hb dX1_flow_41 (by decide) ?_
    refine lv_astore (lv' := [(5, .ref (A.ce j (pA t p))), (4, .int v_7), (3, .ref (A.ce j (pB t p))), (2, .ref (A.ce j (pA t p))), (0, .ref (A.tw j)), (1, .int (nI p))]) hx hb dX1_flow_45 hl (by decide) rfl (fun ls hl => ?_)
    refine lv_iload hx hb dX1_flow_47 (lv_at hl 1 rfl) ?_
    refine lv_if_le (tgt := 56) hx hb dX1_flow_49 (by decide) (fun cZ => absurd cZ c37) (fun c49 => ?_)
    refine lv_aload_n hx hb dX1_flow_52 rfl (lv_at hl 2 rfl) ?_
    refine lv_goto (tgt := 57) hx hb dX1_flow_53 (by decide) ?_
    refine lv_astore (lv' := [(6, .ref (A.ce j (pB t p))), (5, .ref (A.ce j (pA t p))), (4, .int v_7), (3, .ref (A.ce j (pB t p))), (2, .ref (A.ce j (pA t p))), (0, .ref (A.tw j)), (1, .int (nI p))]) hx hb dX1_flow_57 hl (by decide) rfl (fun ls hl => ?_)
    refine lv_aload hx hb dX1_flow_59 (lv_at hl 0 rfl) ?_
    refine lv_aload hx hb dX1_flow_61 (lv_at hl 1 rfl) ?_
    refine k_pe (v := ka_5 (200 + 8 * j + (pA t p)) 0 + ka_5 (200 + 8 * j + (pA t p)) 1 + ka_5 (200 + 8 * j + (pA t p)) 2) (r_VA (As := []) (rest := [.ref (A.ce j (pB t p))]) B hM (v_full hC1) q760 rfl hl.1 (Nat.le_of_ble_eq_true rfl) dX1_flow_63 ⟨Nat.le_of_ble_eq_true rfl, Nat.le_of_ble_eq_true rfl⟩ ⟨Nat.le_of_ble_eq_true rfl, Nat.le_of_ble_eq_true rfl⟩) hM (fun H locs hM => ?_)
    refine r_topv (v := fullT t (pA t p)) (hN5.2.2.2.2.2.1.full hA) ?_
    refine lv_aload_n hx hb dX1_flow_66 rfl (lv_at hl 5 rfl) ?_
    refine r_getq B hM 9 hW.1 rfl (by decide) rfl rfl (hW.2.1 9 _ _ rfl).1 q140 dX1_flow_67 ?_
    refine lv_iload_n hx hb dX1_flow_70 rfl (lv_at hl 6 rfl) ?_
    refine r_ild B hM p (show th (A.ta j 9) = some (42 + 10 * j, .inr (0, 13)) from (hW.2.1 9 _ _ rfl).2) rfl (by omega) (by decide) dX1_flow_71 ?_
    refine r_topv (v := t (55 + 4 * p + 2)) ((hN5.2.2.2.2.2.1.2.1 p (by omega)).2.2.1) ?_
    refine lv_iload hx hb dX1_flow_72 (lv_at hl 2 rfl) ?_
    refine va_mabs hx hb (B.2.2.1.trans hl.1.symm) B.2.2.2.1 (B.ts _ q761) (B.ts _ q762) (B.ts _ q83) (B.ts _ q763) (Nat.le_of_ble_eq_true rfl) (Nat.le_of_ble_eq_true rfl) (Nat.le_of_ble_eq_true rfl) (Nat.le_of_ble_eq_true rfl) dX1_flow_74 ?_
    refine lv_imul hx hb dX1_flow_77 ?_
    refine lv_iconst (v := 2) hx hb dX1_flow_78 (by decide) ?_
    refine lv_idiv hx hb dX1_flow_79 (by decide) ?_
    refine va_mmin hx hb (B.2.2.1.trans hl.1.symm) B.2.2.2.1 (B.ts _ q764) (B.ts _ q500) (B.ts _ q83) (B.ts _ q501) (Nat.le_of_ble_eq_true rfl) (Nat.le_of_ble_eq_true rfl) (Nat.le_of_ble_eq_true rfl) (Nat.le_of_ble_eq_true rfl) dX1_flow_80 ?_
    refine k_pe (v := tkT (nI kd2) (if (((t (55 + 4 * p + 2)) * (if 0 ≤ v_7 then v_7 else 0 - v_7)) / 2) < (fullT t (pA t p)) then (((t (55 + 4 * p + 2)) * (if 0 ≤ v_7 then v_7 else 0 - v_7)) / 2) else (fullT t (pA t p)))) (r_VA (As := [.int (if (((t (55 + 4 * p + 2)) * (if 0 ≤ v_7 then v_7 else 0 - v_7)) / 2) < (fullT t (pA t p)) then (((t (55 + 4 * p + 2)) * (if 0 ≤ v_7 then v_7 else 0 - v_7)) / 2) else (fullT t (pA t p)))]) (rest := []) B hM (v_takes hC2 (if (((t (55 + 4 * p + 2)) * (if 0 ≤ v_7 then v_7 else 0 - v_7)) / 2) < (fullT t (pA t p)) then (((t (55 + 4 * p + 2)) * (if 0 ≤ v_7 then v_7 else 0 - v_7)) / 2) else (fullT t (pA t p)))) q765 rfl hl.1 (Nat.le_of_ble_eq_true rfl) dX1_flow_83 ⟨Nat.le_of_ble_eq_true rfl, Nat.le_of_ble_eq_true rfl⟩ ⟨Nat.le_of_ble_eq_true rfl, Nat.le_of_ble_eq_true rfl⟩) hM (fun H locs hM => ?_)
    refine r_topv (v := takesT t (pB t p) (if (((t (55 + 4 * p + 2)) * (if 0 ≤ v_7 then v_7 else 0 - v_7)) / 2) < (fullT t (pA t p)) then (((t (55 + 4 * p + 2)) * (if 0 ≤ v_7 then v_7 else 0 - v_7)) / 2) else (fullT t (pA t p)))) (by rw [tkT_e, hkt2]) ?_
    refine lv_topi (fun v_9 ev_9 => ?_)
    refine lv_istore (lv' := [(7, .int v_9), (6, .ref (A.ce j (pB t p))), (5, .ref (A.ce j (pA t p))), (4, .int v_7), (3, .ref (A.ce j (pB t p))), (2, .ref (A.ce j (pA t p))), (0, .ref (A.tw j)), (1, .int (nI p))]) hx hb dX1_flow_86 hl (by decide) rfl (fun ls hl => ?_)
    refine lv_aload_n hx hb dX1_flow_88 rfl (lv_at hl 6 rfl) ?_
    refine r_getq B hM 10 hW.1 rfl (by decide) rfl rfl (hW.2.1 10 _ _ rfl).1 q142 dX1_flow_89 ?_
    refine lv_iload_n hx hb dX1_flow_92 rfl (lv_at hl 7 rfl) ?_
    refine r_zld B hM p (show th (A.ta j 10) = some (43 + 10 * j, .inr (1, 13)) from (hW.2.1 10 _ _ rfl).2) rfl (by omega) (by decide) dX1_flow_93 ?_
    refine r_topv (v := t (55 + 4 * p + 3)) ((hN5.2.2.2.2.2.1.2.1 p (by omega)).2.2.2) ?_
    refine lv_if_eq (tgt := 101) hx hb dX1_flow_94 (by decide) (fun c94 => ?_) (fun c94 => ?_)
    · refine lv_iload hx hb dX1_flow_101 (lv_at hl 3 rfl) ?_
      refine lv_if_le (tgt := 111) hx hb dX1_flow_103 (by decide) (fun cZ => absurd cZ c37) (fun c103 => ?_)
      refine lv_iload hx hb dX1_flow_106 (lv_at hl 0 rfl) ?_
      refine lv_goto (tgt := 114) hx hb dX1_flow_108 (by decide) ?_
      refine r_iret B hr hM dX1_flow_114 ?_
      refine ⟨?_, hb5⟩
      have hlt := hfl.1.mp (i_nle.mp c37)
      have e1 : higherT t p = pA t p := if_pos hlt
      have e2 : lowerT t p = pB t p := if_pos hlt
      rw [if_pos hlt, ← hfl.2.1 c94, e1, e2]
      rw [ev_9]
    · refine lv_iconst (v := 0) hx hb dX1_flow_97 (by decide) ?_
      refine lv_goto (tgt := 114) hx hb dX1_flow_98 (by decide) ?_
      refine r_iret B hr hM dX1_flow_114 ?_
      refine ⟨?_, hb5⟩
      rw [hfl.2.2 c94]
      split <;> rfl
theorem abs_nat {r : Nat} (h : r < 2 ^ 31) {c : Prop} [Decidable c] {x : Int32} (hx : x = if c then nI r else -nI r) : (if 0 ≤ x then x else 0 - x) = nI r := by
  subst hx
  by_cases hc : c
  · rw [if_pos hc, if_pos (nI_pos' h)]
  · rw [if_neg hc]
    have e : (-nI r).toInt = -(r : Int) := by
      rw [Int32.toInt_neg, nI_toInt h]
      exact Int.bmod_eq_of_le (by omega) (by omega)
    by_cases h0 : r = 0
    · subst h0; decide
    · rw [if_neg (by rw [i32_le, e]; show ¬ (0 : Int) ≤ _; omega)]
      exact nI_t (by rw [sub2_toInt (a := 0) (b := -(r : Int)) rfl e (by omega) (by omega)]; omega) h
set_option maxHeartbeats 4000000 in
theorem ok_X1_runs (hN : Tn th rh ka A j K t) (hnow : rh 0 1 = some (A.tw j)) (hj : j ≤ 2) (hB : Bok u s t) (hOv : OvN u s) {p : Nat} (hp : p < nP t) : Met l yX1_runs (ws_ yX1_runs cX1_runs 2 (some .int)) (RM 109 0 0) (Pc_ G [.ref (A.tw j), .int (nI p)] th rh ph ka) (Qi G th rh ph (fun r ka' => r = runsT t p ∧ But [6] ka ka')) 0 0 (frG G) := by
  refine m_of (by decide) (Nat.le_of_ble_eq_true rfl) ?_
  intro p_ e_ s_ m_ below_ meth_ c_ B hr hnm ls hl hM
  have hx := B.1
  have hb := B.2.1
  have hM := hM
  have hO := hN.1
  have hW := hN.2.1
  have hR := hN.2.2.2.2.1
  have h8 := hR.1.2
  have h13 := hR.2.1.2
  refine lv_aload_n hx hb dX1_runs_0 rfl (lv_at hl 0 rfl) ?_
  refine lv_iload_n hx hb dX1_runs_1 rfl (lv_at hl 1 rfl) ?_
  refine k_i (r_V (As := [.int (nI p)]) (rest := []) B hM hW.1 rfl rfl (ok_X1_flow hN hnow hj hB hOv (p := p) hp) cal_X1_flow q755 rfl hl.1 (Nat.le_of_ble_eq_true rfl) dX1_runs_2 ⟨Nat.le_of_ble_eq_true rfl, Nat.le_of_ble_eq_true rfl⟩ ⟨Nat.le_of_ble_eq_true rfl, Nat.le_of_ble_eq_true rfl⟩) hM (fun r_1 ka_2 H locs p_3 hM => ?_)
  obtain ⟨hr1, hq⟩ := p_3
  refine va_mabs hx hb (B.2.2.1.trans hl.1.symm) B.2.2.2.1 (B.ts _ q761) (B.ts _ q762) (B.ts _ q83) (B.ts _ q763) (Nat.le_of_ble_eq_true rfl) (Nat.le_of_ble_eq_true rfl) (Nat.le_of_ble_eq_true rfl) (Nat.le_of_ble_eq_true rfl) dX1_runs_5 ?_
  refine r_iret B hr hM dX1_runs_8 ?_
  obtain ⟨r, er, h1, h2, -⟩ := hB.runs hOv hR hp
  refine ⟨?_, hq⟩
  rw [er] at hr1 ⊢
  exact abs_nat (by omega) hr1
set_option maxHeartbeats 4000000 in
theorem ok_X1_running (hN : Tn th rh ka A j K t) (hnow : rh 0 1 = some (A.tw j)) (hj : j ≤ 2) (hB : Bok u s t) (hOv : OvN u s)  : Met l yX1_running (ws_ yX1_running cX1_running 3 (some .int)) (RM 110 0 0) (Pc_ G [.ref (A.tw j)] th rh ph ka) (Qi G th rh ph (fun r ka' => r = runningT t ∧ But [6] ka ka')) 0 0 (frG G) := by
  refine m_of (by decide) (Nat.le_of_ble_eq_true rfl) ?_
  intro p_ e_ s_ m_ below_ meth_ c_ B hr hnm ls hl hM
  have hx := B.1
  have hb := B.2.1
  have hM := hM
  have hO := hN.1
  have hW := hN.2.1
  have hR := hN.2.2.2.2.1
  have h8 := hR.1.2
  have h13 := hR.2.1.2
  have loop : ∀ (fu_loop : Nat) (i : Nat) (a : Int32) (kb : Ka), nP t - i < fu_loop → (i ≤ nP t) → (itn (fun p a => a + (if 0 < runsT t p then 1 else 0)) i 0 = a) → (But [6] ka kb) → ∀ (ls : Array Slot) (H : Heap) (locs : List Loc), lv_has ls 3 [(0, .ref (A.tw j)), (1, .int a), (2, .int (nI i))] → Md G th rh ph kb H locs → W p_ l e_ (RM 110 0 0) s_ m_ ([.ref (A.tw j)].toArray) below_ meth_ c_ H locs 0 0 (MQ below_ (Qi G th rh ph (fun r ka' => r = runningT t ∧ But [6] ka ka')) ([.ref (A.tw j)].toArray) s_ 0 0 (frG G)) (F0 m_ 4 ls []) := by
    intro fu_loop
    induction fu_loop with
    | zero => intro i a kb hfu; exact absurd hfu (Nat.not_lt_zero _)
    | succ fu_loop ih_loop =>
      intro i a kb hfu_loop hi ha hbu ls H locs hl hM
      have hNb := hN.but hbu hj (by decide)
      refine lv_iload_n hx hb dX1_running_4 rfl (lv_at hl 2 rfl) ?_
      refine lv_aload_n hx hb dX1_running_5 rfl (lv_at hl 0 rfl) ?_
      refine r_geti B hM 1 hW.1 rfl (by decide) rfl rfl q124 dX1_running_6 ?_
      refine r_topv (v := t 2) (hNb.2.2.2.2.2.1.1.2.1) ?_
      refine lv_icmp_ge (tgt := 37) hx hb dX1_running_9 (by decide) (fun c9 => ?_) (fun c9 => ?_)
      · have n9 : nP t ≤ i := ntLe (by rw [hNb.2.2.2.2.1.2.1.1]) rfl (by omega) (by omega) c9
        refine lv_iload_n hx hb dX1_running_37 rfl (lv_at hl 1 rfl) ?_
        refine r_iret B hr hM dX1_running_38 ?_
        refine ⟨?_, hbu⟩
        unfold runningT
        rw [show nP t = i by omega, ha]
      · have n9 : i < nP t := ntNle (by rw [hNb.2.2.2.2.1.2.1.1]) rfl (by omega) (by omega) c9
        refine lv_iload_n hx hb dX1_running_12 rfl (lv_at hl 1 rfl) ?_
        refine lv_aload_n hx hb dX1_running_13 rfl (lv_at hl 0 rfl) ?_
        refine lv_iload_n hx hb dX1_running_14 rfl (lv_at hl 2 rfl) ?_
        refine k_i (r_V (As := [.int (nI i)]) (rest := [.int a]) B hM hW.1 rfl rfl (ok_X1_runs hNb hnow hj hB hOv (p := i) n9) cal_X1_runs q824 rfl hl.1 (Nat.le_of_ble_eq_true rfl) dX1_running_15 ⟨Nat.le_of_ble_eq_true rfl, Nat.le_of_ble_eq_true rfl⟩ ⟨Nat.le_of_ble_eq_true rfl, Nat.le_of_ble_eq_true rfl⟩) hM (fun r_1 ka_2 H locs p_3 hM => ?_)
        obtain ⟨hr1, hq⟩ := p_3
        subst hr1
        have hb2 : But [6] ka ka_2 := But.trans hbu hq
        refine lv_if_le (tgt := 25) hx hb dX1_running_18 (by decide) (fun c18 => ?_) (fun c18 => ?_)
        · refine lv_iconst (v := 0) hx hb dX1_running_25 (by decide) ?_
          refine k_pe (v := 0) (r_SN (As := [.int 0]) (rest := [.int a]) B hM (ok_X0_asBit (v := 0) (Or.inl rfl)) cal_X0_asBit q825 rfl hl.1 (Nat.le_of_ble_eq_true rfl) dX1_running_26 ⟨Nat.le_of_ble_eq_true rfl, Nat.le_of_ble_eq_true rfl⟩ ⟨Nat.le_of_ble_eq_true rfl, Nat.le_of_ble_eq_true rfl⟩) hM (fun H locs hM => ?_)
          refine lv_iadd hx hb dX1_running_29 ?_
          refine lv_topi (fun v_4 ev_4 => ?_)
          refine lv_istore_n (lv' := [(1, .int v_4), (0, .ref (A.tw j)), (2, .int (nI i))]) hx hb dX1_running_30 rfl hl (by decide) rfl (fun ls hl => ?_)
          refine lv_iinc (v := nI (i + 1)) (lv' := [(2, .int (nI (i + 1))), (1, .int v_4), (0, .ref (A.tw j))]) hx hb dX1_running_31 hl (k := 2) rfl (nI_1 _) (by decide) rfl (fun ls hl => ?_)
          refine lv_goto (tgt := 4) hx hb dX1_running_34 (by decide) ?_
          exact ih_loop (i + 1) v_4 ka_2 (by omega) (by omega) (by rw [ev_4, ← ha]; show _ + (if 0 < runsT t i then 1 else 0) = _; rw [if_neg (i_nlt.mpr c18)]) hb2 _ _ _ (lv_sub hl [2, 1, 0] rfl) hM
        · refine lv_iconst (v := 1) hx hb dX1_running_21 (by decide) ?_
          refine lv_goto (tgt := 26) hx hb dX1_running_22 (by decide) ?_
          refine k_pe (v := 1) (r_SN (As := [.int 1]) (rest := [.int a]) B hM (ok_X0_asBit (v := 1) (Or.inr rfl)) cal_X0_asBit q825 rfl hl.1 (Nat.le_of_ble_eq_true rfl) dX1_running_26 ⟨Nat.le_of_ble_eq_true rfl, Nat.le_of_ble_eq_true rfl⟩ ⟨Nat.le_of_ble_eq_true rfl, Nat.le_of_ble_eq_true rfl⟩) hM (fun H locs hM => ?_)
          refine lv_iadd hx hb dX1_running_29 ?_
          refine lv_topi (fun v_5 ev_5 => ?_)
          refine lv_istore_n (lv' := [(1, .int v_5), (0, .ref (A.tw j)), (2, .int (nI i))]) hx hb dX1_running_30 rfl hl (by decide) rfl (fun ls hl => ?_)
          refine lv_iinc (v := nI (i + 1)) (lv' := [(2, .int (nI (i + 1))), (1, .int v_5), (0, .ref (A.tw j))]) hx hb dX1_running_31 hl (k := 2) rfl (nI_1 _) (by decide) rfl (fun ls hl => ?_)
          refine lv_goto (tgt := 4) hx hb dX1_running_34 (by decide) ?_
          exact ih_loop (i + 1) v_5 ka_2 (by omega) (by omega) (by rw [ev_5, ← ha]; show _ + (if 0 < runsT t i then 1 else 0) = _; rw [if_pos (i_nle.mp c18)]) hb2 _ _ _ (lv_sub hl [2, 1, 0] rfl) hM
  refine lv_iconst (v := 0) hx hb dX1_running_0 (by decide) ?_
  refine lv_istore_n (lv' := [(1, .int 0), (0, .ref (A.tw j))]) hx hb dX1_running_1 rfl hl (by decide) rfl (fun ls hl => ?_)
  refine lv_iconst (v := 0) hx hb dX1_running_2 (by decide) ?_
  refine lv_istore_n (lv' := [(2, .int 0), (1, .int 0), (0, .ref (A.tw j))]) hx hb dX1_running_3 rfl hl (by decide) rfl (fun ls hl => ?_)
  exact loop (nP t + 1) 0 0 ka (by omega) (Nat.zero_le _) rfl But.refl _ _ _ (lv_sub hl [2, 1, 0] rfl) hM
theorem mmin {x y : Int32} : (if y < x then y else x) = minI x y := by
  unfold minI
  by_cases c : x < y
  · rw [if_pos c, if_neg (fun z => by rw [i32_lt] at c z; omega)]
  · rw [if_neg c]
    by_cases d : y < x
    · rw [if_pos d]
    · rw [if_neg d]; exact Int32.toInt_inj.mp (by rw [i32_lt] at c d; omega)
def rsX (t : Row) (c : Nat) (n : Int32) : Nat → Int32
  | 0 => n
  | i + 1 => rsX t c n i - aT t c n i
def grX (t : Row) (c : Nat) (n : Int32) : Nat → Row
  | 0 => t
  | i + 1 => rw1 (grX t c n i) (7 + 6 * c + (3 + i)) (t (7 + 6 * c + (3 + i)) - goX t c n i)
theorem grX_at {t : Row} {c : Nat} {n : Int32} : ∀ {i q : Nat}, i ≤ q → grX t c n i (7 + 6 * c + (3 + q)) = t (7 + 6 * c + (3 + q))
  | 0, _, _ => rfl
  | i + 1, q, h => by
    show rw1 (grX t c n i) _ _ _ = _
    rw [rw1_n _ (by omega)]
    exact grX_at (by omega)
theorem grX_nC {t : Row} {c : Nat} {n : Int32} : ∀ i, nC (grX t c n i) = nC t
  | 0 => rfl
  | i + 1 => by
    show nC (rw1 _ _ _) = _
    rw [nC_rw (by omega)]
    exact grX_nC i
theorem grX_3 {t : Row} {c : Nat} {n : Int32} (h : ∀ i, i < 3 → goX t c n i = goT t c n i) : grX t c n 3 = drT t c n := by
  funext x
  unfold drT
  show rw1 (rw1 (rw1 t (7 + 6 * c + (3 + 0)) _) (7 + 6 * c + (3 + 1)) _) (7 + 6 * c + (3 + 2)) _ x = _
  by_cases c0 : x = 7 + 6 * c + 3
  · subst c0; rw [if_pos rfl, rw1_n _ (by omega), rw1_n _ (by omega), rw1_s, h 0 (by decide)]
  · rw [if_neg c0]
    by_cases c1 : x = 7 + 6 * c + 4
    · subst c1; rw [if_pos rfl, rw1_n _ (by omega), rw1_s, h 1 (by decide)]
    · rw [if_neg c1]
      by_cases c2 : x = 7 + 6 * c + 5
      · subst c2; rw [if_pos rfl, rw1_s, h 2 (by decide)]
      · rw [if_neg c2, rw1_n _ (by omega), rw1_n _ (by omega), rw1_n _ (by omega)]
theorem RepT.but1 {ka : Ka} {j i : Nat} {t : Row} {v : Int32} (h : RepT ka j t) : RepT (up2 ka 1 i v) j t := by
  unfold RepT at *
  rw [up2_a _ _ _ (show 30 + j ≠ 1 by omega), up2_a _ _ _ (show 40 + 10 * j ≠ 1 by omega), up2_a _ _ _ (show 41 + 10 * j ≠ 1 by omega), up2_a _ _ _ (show 42 + 10 * j ≠ 1 by omega), up2_a _ _ _ (show 43 + 10 * j ≠ 1 by omega)]
  refine ⟨h.1, h.2.1, fun k hk => ?_⟩
  rw [up2_a _ _ _ (show 100 + 8 * j + k ≠ 1 by omega), up2_a _ _ _ (show 200 + 8 * j + k ≠ 1 by omega)]
  exact h.2.2 k hk
set_option maxHeartbeats 4000000 in
theorem ok_X1_goes (hN : Tn th rh ka A j K t) (hj : j ≤ 2) (hB : Bok u s t) (hOv : OvN u s) {k m : Nat} (hk : k < nC t) (hm : mayGo t k m) : Met l yX1_goes (ws_ yX1_goes cX1_goes 7 none) (RM 2 0 0) (Pc_ G [.ref (A.tw j), .ref (A.ce j k), .int (nI m)] th rh ph ka) (Qv G th rh ph (fun ka' => RepT ka' j (drT t k (nI m)) ∧ (∀ i, i < 3 → ka' 1 i = goT t k (nI m) i) ∧ ButT j ka ka')) 0 0 (frG G) := by
  refine m_of (by decide) (Nat.le_of_ble_eq_true rfl) ?_
  intro p_ e_ s_ m_ below_ meth_ c_ B hr hnm ls hl hM
  have hx := B.1
  have hb := B.2.1
  have hM := hM
  have hO := hN.1
  have hW := hN.2.1
  have hR := hN.2.2.2.2.1
  have h8 := hR.1.2
  have h13 := hR.2.1.2
  obtain ⟨kd1, hke1, hkt1⟩ := hN.2.2.2.1 k hk
  obtain ⟨hp1, hC1⟩ := hN.2.2.1.at (Nat.lt_of_lt_of_le hk hN.2.2.2.2.1.1.2) hke1
  obtain ⟨rc1, hr_1, hrN1, hr01, hr11, hr21, hr31, hg01, hg11, hg21, hg31, hrC1⟩ := gC4 hC1.2.2.2.2
  have loop2 : ∀ (fu_loop2 : Nat) (i : Nat) (rs : Int32) (kb : Ka), 3 - i < fu_loop2 → (i ≤ 3) → (rs = reX t k (nI m) i) → (RepT kb j (grX t k (nI m) i)) → (∀ q, q < i → kb 1 q = goX t k (nI m) q) → (∀ q, i ≤ q → q < 3 → kb 1 q = aT t k (nI m) q) → (ButT j ka kb) → ∀ (ls : Array Slot) (H : Heap) (locs : List Loc), lv_has ls 7 [(0, .ref (A.tw j)), (1, .ref (A.ce j k)), (2, .int (nI m)), (3, .int (fullT t k)), (4, .int rs), (5, .int (nI i))] → Md G th rh ph kb H locs → W p_ l e_ (RM 2 0 0) s_ m_ ([.ref (A.tw j), .ref (A.ce j k), .int (nI m)].toArray) below_ meth_ c_ H locs 0 0 (MQ below_ (Qv G th rh ph (fun ka' => RepT ka' j (drT t k (nI m)) ∧ (∀ i, i < 3 → ka' 1 i = goT t k (nI m) i) ∧ ButT j ka ka')) ([.ref (A.tw j), .ref (A.ce j k), .int (nI m)].toArray) s_ 0 0 (frG G)) (F0 m_ 70 ls []) := by
    intro fu_loop2
    induction fu_loop2 with
    | zero => intro i rs kb hfu; exact absurd hfu (Nat.not_lt_zero _)
    | succ fu_loop2 ih_loop2 =>
      intro i rs kb hfu_loop2 hi hrs hrp hg1 hg2 hbt ls H locs hl hM
      refine lv_iload hx hb dX1_goes_70 (lv_at hl 5 rfl) ?_
      refine lv_iconst (v := 3) hx hb dX1_goes_72 (by decide) ?_
      refine lv_icmp_ge (tgt := 149) hx hb dX1_goes_73 (by decide) (fun c73 => ?_) (fun c73 => ?_)
      · have n73 : 3 ≤ i := ntLe rfl rfl (by omega) (by omega) c73
        refine r_vret B hr hM dX1_goes_149 ?_
        have hi3 : i = 3 := by omega
        subst hi3
        have hgo := hB.go hOv hk hm
        rw [grX_3 hgo] at hrp
        exact ⟨hrp, fun q hq => (hg1 q hq).trans (hgo q hq), hbt⟩
      · have n73 : i < 3 := ntNle rfl rfl (by omega) (by omega) c73
        refine lv_iload hx hb dX1_goes_76 (lv_at hl 4 rfl) ?_
        refine lv_aload_n hx hb dX1_goes_78 rfl (lv_at hl 1 rfl) ?_
        refine r_getq B hM 2 hC1.1 hr_1 (by rw [hrN1]; decide) hr21 hg21 hC1.2.1 q293 dX1_goes_79 ?_
        refine lv_iload hx hb dX1_goes_82 (lv_at hl 5 rfl) ?_
        refine r_ild B hM i hC1.2.2.2.1 rfl (by omega) (by decide) dX1_goes_84 ?_
        refine r_topv (v := t (7 + 6 * k + (3 + i))) (((hrp.2.2 k (by rw [grX_nC]; exact hk)).2.2 i n73).trans (grX_at (Nat.le_refl _))) ?_
        refine lv_aload_n hx hb dX1_goes_85 rfl (lv_at hl 0 rfl) ?_
        refine r_getq B hM 13 hW.1 rfl (by decide) rfl rfl hW.2.2 q148 dX1_goes_86 ?_
        refine r_getqN B hM 0 hO.1 rfl (by decide) rfl rfl (hO.2 0 _ _ rfl).1 q193 dX1_goes_89 ?_
        refine lv_iload hx hb dX1_goes_92 (lv_at hl 5 rfl) ?_
        refine r_ild B hM i (hO.2 0 _ _ rfl).2 rfl (by omega) (by decide) dX1_goes_94 ?_
        refine r_topv (v := aT t k (nI m) i) (hg2 i (Nat.le_refl _) n73) ?_
        refine lv_isub hx hb dX1_goes_95 ?_
        refine va_mmin hx hb (B.2.2.1.trans hl.1.symm) B.2.2.2.1 (B.ts _ q764) (B.ts _ q500) (B.ts _ q83) (B.ts _ q501) (Nat.le_of_ble_eq_true rfl) (Nat.le_of_ble_eq_true rfl) (Nat.le_of_ble_eq_true rfl) (Nat.le_of_ble_eq_true rfl) dX1_goes_96 ?_
        refine r_topv (v := minI (reX t k (nI m) i) (t (7 + 6 * k + (3 + i)) - aT t k (nI m) i)) (by rw [hrs]; exact mmin) ?_
        refine lv_topi (fun mo emo => ?_)
        refine lv_istore (lv' := [(6, .int mo), (0, .ref (A.tw j)), (1, .ref (A.ce j k)), (2, .int (nI m)), (3, .int (fullT t k)), (4, .int rs), (5, .int (nI i))]) hx hb dX1_goes_99 hl (by decide) rfl (fun ls hl => ?_)
        refine lv_aload_n hx hb dX1_goes_101 rfl (lv_at hl 1 rfl) ?_
        refine r_getq B hM 13 hW.1 rfl (by decide) rfl rfl hW.2.2 q148 dX1_goes_102 ?_
        refine r_getqN B hM 0 hO.1 rfl (by decide) rfl rfl (hO.2 0 _ _ rfl).1 q193 dX1_goes_105 ?_
        refine lv_iload hx hb dX1_goes_108 (lv_at hl 6 rfl) ?_
        refine lv_dup2_11 hx hb dX1_goes_110 rfl rfl ?_
        refine r_ild B hM i (hO.2 0 _ _ rfl).2 rfl (by omega) (by decide) dX1_goes_111 ?_
        refine r_topv (v := aT t k (nI m) i) (hg2 i (Nat.le_refl _) n73) ?_
        refine lv_iload hx hb dX1_goes_112 (lv_at hl 0 rfl) ?_
        refine lv_iadd hx hb dX1_goes_114 ?_
        refine r_topv (v := goX t k (nI m) i) (by unfold goX; rw [emo]) ?_
        refine r_ist B hM i (hO.2 0 _ _ rfl).2 rfl (by omega) (by decide) dX1_goes_115 (fun ka_1 H locs eka_1 hM => ?_)
        refine lv_iload hx hb dX1_goes_116 (lv_at hl 5 rfl) ?_
        refine lv_iload hx hb dX1_goes_118 (lv_at hl 0 rfl) ?_
        refine lv_isub hx hb dX1_goes_120 ?_
        refine lv_topi (fun v_2 ev_2 => ?_)
        refine lv_istore (lv' := [(4, .int v_2), (6, .int mo), (0, .ref (A.tw j)), (1, .ref (A.ce j k)), (2, .int (nI m)), (3, .int (fullT t k)), (5, .int (nI i))]) hx hb dX1_goes_121 hl (by decide) rfl (fun ls hl => ?_)
        refine lv_aload_n hx hb dX1_goes_123 rfl (lv_at hl 3 rfl) ?_
        refine r_getq B hM 2 hC1.1 hr_1 (by rw [hrN1]; decide) hr21 hg21 hC1.2.1 q293 dX1_goes_124 ?_
        refine lv_iload hx hb dX1_goes_127 (lv_at hl 6 rfl) ?_
        refine lv_dup2_11 hx hb dX1_goes_129 rfl rfl ?_
        refine r_ild B hM i hC1.2.2.2.1 rfl (by omega) (by decide) dX1_goes_130 ?_
        refine r_topv (v := t (7 + 6 * k + (3 + i))) (by rw [eka_1, up2_a _ _ _ (by omega)]; exact ((hrp.2.2 k (by rw [grX_nC]; exact hk)).2.2 i n73).trans (grX_at (Nat.le_refl _))) ?_
        refine lv_aload_n hx hb dX1_goes_131 rfl (lv_at hl 2 rfl) ?_
        refine r_getq B hM 13 hW.1 rfl (by decide) rfl rfl hW.2.2 q148 dX1_goes_132 ?_
        refine r_getqN B hM 0 hO.1 rfl (by decide) rfl rfl (hO.2 0 _ _ rfl).1 q193 dX1_goes_135 ?_
        refine lv_iload hx hb dX1_goes_138 (lv_at hl 6 rfl) ?_
        refine r_ild B hM i (hO.2 0 _ _ rfl).2 rfl (by omega) (by decide) dX1_goes_140 ?_
        refine r_topv (v := goX t k (nI m) i) (by rw [eka_1, up2_s]) ?_
        refine lv_isub hx hb dX1_goes_141 ?_
        refine r_ist B hM i hC1.2.2.2.1 rfl (by omega) (by decide) dX1_goes_142 (fun ka_3 H locs eka_3 hM => ?_)
        refine lv_iinc (v := nI (i + 1)) (lv' := [(5, .int (nI (i + 1))), (4, .int v_2), (6, .int mo), (0, .ref (A.tw j)), (1, .ref (A.ce j k)), (2, .int (nI m)), (3, .int (fullT t k))]) hx hb dX1_goes_143 hl (k := 6) rfl (nI_1 _) (by decide) rfl (fun ls hl => ?_)
        refine lv_goto (tgt := 70) hx hb dX1_goes_146 (by decide) ?_
        exact ih_loop2 (i + 1) v_2 ka_3 (by omega) (by omega) (by rw [ev_2, emo, hrs]; rfl) (by rw [eka_3, eka_1]; exact RepT.wine (RepT.but1 hrp) (by rw [grX_nC]; exact hk) n73 hj (by rw [grX_nC]; exact h8)) (fun q hq => by rw [eka_3, up2_a _ _ _ (by omega), eka_1]; by_cases z : q = i; (subst z; rw [up2_s]); (rw [up2_i _ _ _ _ z]; exact hg1 q (by omega))) (fun q h1 h2 => by rw [eka_3, up2_a _ _ _ (by omega), eka_1, up2_i _ _ _ _ (by omega)]; exact hg2 q (by omega) h2) (hbt.trans ((ButT.up eka_1 (by omega)).trans (ButT.up eka_3 (by omega)))) _ _ _ (lv_sub hl [3, 4, 5, 6, 1, 0] rfl) hM
  have loop1 : ∀ (fu_loop1 : Nat) (i : Nat) (rs : Int32) (kb : Ka), 3 - i < fu_loop1 → (i ≤ 3) → (rs = rsX t k (nI m) i) → (∀ q, q < i → kb 1 q = aT t k (nI m) q) → (But [1] ka kb) → ∀ (ls : Array Slot) (H : Heap) (locs : List Loc), lv_has ls 7 [(0, .ref (A.tw j)), (1, .ref (A.ce j k)), (2, .int (nI m)), (3, .int (fullT t k)), (4, .int rs), (5, .int (nI i))] → Md G th rh ph kb H locs → W p_ l e_ (RM 2 0 0) s_ m_ ([.ref (A.tw j), .ref (A.ce j k), .int (nI m)].toArray) below_ meth_ c_ H locs 0 0 (MQ below_ (Qv G th rh ph (fun ka' => RepT ka' j (drT t k (nI m)) ∧ (∀ i, i < 3 → ka' 1 i = goT t k (nI m) i) ∧ ButT j ka ka')) ([.ref (A.tw j), .ref (A.ce j k), .int (nI m)].toArray) s_ 0 0 (frG G)) (F0 m_ 11 ls []) := by
    intro fu_loop1
    induction fu_loop1 with
    | zero => intro i rs kb hfu; exact absurd hfu (Nat.not_lt_zero _)
    | succ fu_loop1 ih_loop1 =>
      intro i rs kb hfu_loop1 hi hrs hg hbu ls H locs hl hM
      have hNb := hN.but hbu hj (by decide)
      refine lv_iload hx hb dX1_goes_11 (lv_at hl 5 rfl) ?_
      refine lv_iconst (v := 3) hx hb dX1_goes_13 (by decide) ?_
      refine lv_icmp_ge (tgt := 67) hx hb dX1_goes_14 (by decide) (fun c14 => ?_) (fun c14 => ?_)
      · have n14 : 3 ≤ i := ntLe rfl rfl (by omega) (by omega) c14
        refine lv_iconst (v := 0) hx hb dX1_goes_67 (by decide) ?_
        refine lv_istore (lv' := [(5, .int 0), (0, .ref (A.tw j)), (1, .ref (A.ce j k)), (2, .int (nI m)), (3, .int (fullT t k)), (4, .int rs)]) hx hb dX1_goes_68 hl (by decide) rfl (fun ls hl => ?_)
        exact loop2 4 0 rs kb (by omega) (by omega) (by rw [hrs, show i = 3 by omega]; rfl) (hNb.2.2.2.2.2.1) (fun q hq => absurd hq (Nat.not_lt_zero _)) (fun q _ hq => hg q (by omega)) (fun q g1 g2 g3 g4 g5 g6 => hbu q (fun z => g1 (List.mem_singleton.mp z))) _ _ _ (lv_sub hl [1, 2, 3, 4, 5, 0] rfl) hM
      · have n14 : i < 3 := ntNle rfl rfl (by omega) (by omega) c14
        refine lv_aload_n hx hb dX1_goes_17 rfl (lv_at hl 0 rfl) ?_
        refine r_getq B hM 13 hW.1 rfl (by decide) rfl rfl hW.2.2 q148 dX1_goes_18 ?_
        refine r_getqN B hM 0 hO.1 rfl (by decide) rfl rfl (hO.2 0 _ _ rfl).1 q193 dX1_goes_21 ?_
        refine lv_iload hx hb dX1_goes_24 (lv_at hl 5 rfl) ?_
        refine lv_iload_n hx hb dX1_goes_26 rfl (lv_at hl 3 rfl) ?_
        refine lv_if_ne (tgt := 34) hx hb dX1_goes_27 (by decide) (fun c27 => ?_) (fun c27 => ?_)
        · refine lv_aload_n hx hb dX1_goes_34 rfl (lv_at hl 1 rfl) ?_
          refine r_getq B hM 2 hC1.1 hr_1 (by rw [hrN1]; decide) hr21 hg21 hC1.2.1 q293 dX1_goes_35 ?_
          refine lv_iload hx hb dX1_goes_38 (lv_at hl 5 rfl) ?_
          refine r_ild B hM i hC1.2.2.2.1 rfl (by omega) (by decide) dX1_goes_40 ?_
          refine r_topv (v := t (7 + 6 * k + (3 + i))) ((hNb.2.2.2.2.2.1.2.2 k hk).2.2 i (by omega)) ?_
          refine lv_iload_n hx hb dX1_goes_41 rfl (lv_at hl 2 rfl) ?_
          refine lv_imul hx hb dX1_goes_42 ?_
          refine lv_iload_n hx hb dX1_goes_43 rfl (lv_at hl 3 rfl) ?_
          refine lv_idiv hx hb dX1_goes_44 c27 ?_
          refine r_topv (v := aT t k (nI m) i) (by unfold aT; rw [if_neg c27]) ?_
          refine r_ist B hM i (hO.2 0 _ _ rfl).2 rfl (by omega) (by decide) dX1_goes_45 (fun ka_4 H locs eka_4 hM => ?_)
          refine lv_iload hx hb dX1_goes_46 (lv_at hl 4 rfl) ?_
          refine lv_aload_n hx hb dX1_goes_48 rfl (lv_at hl 0 rfl) ?_
          refine r_getq B hM 13 hW.1 rfl (by decide) rfl rfl hW.2.2 q148 dX1_goes_49 ?_
          refine r_getqN B hM 0 hO.1 rfl (by decide) rfl rfl (hO.2 0 _ _ rfl).1 q193 dX1_goes_52 ?_
          refine lv_iload hx hb dX1_goes_55 (lv_at hl 5 rfl) ?_
          refine r_ild B hM i (hO.2 0 _ _ rfl).2 rfl (by omega) (by decide) dX1_goes_57 ?_
          refine r_topv (v := aT t k (nI m) i) (by rw [eka_4, up2_s]) ?_
          refine lv_isub hx hb dX1_goes_58 ?_
          refine lv_topi (fun v_5 ev_5 => ?_)
          refine lv_istore (lv' := [(4, .int v_5), (0, .ref (A.tw j)), (1, .ref (A.ce j k)), (2, .int (nI m)), (3, .int (fullT t k)), (5, .int (nI i))]) hx hb dX1_goes_59 hl (by decide) rfl (fun ls hl => ?_)
          refine lv_iinc (v := nI (i + 1)) (lv' := [(5, .int (nI (i + 1))), (4, .int v_5), (0, .ref (A.tw j)), (1, .ref (A.ce j k)), (2, .int (nI m)), (3, .int (fullT t k))]) hx hb dX1_goes_61 hl (k := 5) rfl (nI_1 _) (by decide) rfl (fun ls hl => ?_)
          refine lv_goto (tgt := 11) hx hb dX1_goes_64 (by decide) ?_
          exact ih_loop1 (i + 1) v_5 ka_4 (by omega) (by omega) (by rw [ev_5, hrs]; rfl) (fw_step eka_4 hg) (But.trans hbu (by rw [eka_4]; exact But.up (by decide))) _ _ _ (lv_sub hl [2, 3, 4, 5, 1, 0] rfl) hM
        · refine lv_iconst (v := 0) hx hb dX1_goes_30 (by decide) ?_
          refine lv_goto (tgt := 45) hx hb dX1_goes_31 (by decide) ?_
          refine r_topv (v := aT t k (nI m) i) (by unfold aT; rw [if_pos c27]) ?_
          refine r_ist B hM i (hO.2 0 _ _ rfl).2 rfl (by omega) (by decide) dX1_goes_45 (fun ka_6 H locs eka_6 hM => ?_)
          refine lv_iload hx hb dX1_goes_46 (lv_at hl 4 rfl) ?_
          refine lv_aload_n hx hb dX1_goes_48 rfl (lv_at hl 0 rfl) ?_
          refine r_getq B hM 13 hW.1 rfl (by decide) rfl rfl hW.2.2 q148 dX1_goes_49 ?_
          refine r_getqN B hM 0 hO.1 rfl (by decide) rfl rfl (hO.2 0 _ _ rfl).1 q193 dX1_goes_52 ?_
          refine lv_iload hx hb dX1_goes_55 (lv_at hl 5 rfl) ?_
          refine r_ild B hM i (hO.2 0 _ _ rfl).2 rfl (by omega) (by decide) dX1_goes_57 ?_
          refine r_topv (v := aT t k (nI m) i) (by rw [eka_6, up2_s]) ?_
          refine lv_isub hx hb dX1_goes_58 ?_
          refine lv_topi (fun v_7 ev_7 => ?_)
          refine lv_istore (lv' := [(4, .int v_7), (0, .ref (A.tw j)), (1, .ref (A.ce j k)), (2, .int (nI m)), (3, .int (fullT t k)), (5, .int (nI i))]) hx hb dX1_goes_59 hl (by decide) rfl (fun ls hl => ?_)
          refine lv_iinc (v := nI (i + 1)) (lv' := [(5, .int (nI (i + 1))), (4, .int v_7), (0, .ref (A.tw j)), (1, .ref (A.ce j k)), (2, .int (nI m)), (3, .int (fullT t k))]) hx hb dX1_goes_61 hl (k := 5) rfl (nI_1 _) (by decide) rfl (fun ls hl => ?_)
          refine lv_goto (tgt := 11) hx hb dX1_goes_64 (by decide) ?_
          exact ih_loop1 (i + 1) v_7 ka_6 (by omega) (by omega) (by rw [ev_7, hrs]; rfl) (fw_step eka_6 hg) (But.trans hbu (by rw [eka_6]; exact But.up (by decide))) _ _ _ (lv_sub hl [2, 3, 4, 5, 1, 0] rfl) hM
  refine lv_aload_n hx hb dX1_goes_0 rfl (lv_at hl 1 rfl) ?_
  refine k_pe (v := ka (200 + 8 * j + k) 0 + ka (200 + 8 * j + k) 1 + ka (200 + 8 * j + k) 2) (r_VA (As := []) (rest := []) B hM (v_full hC1) q760 rfl hl.1 (Nat.le_of_ble_eq_true rfl) dX1_goes_1 ⟨Nat.le_of_ble_eq_true rfl, Nat.le_of_ble_eq_true rfl⟩ ⟨Nat.le_of_ble_eq_true rfl, Nat.le_of_ble_eq_true rfl⟩) hM (fun H locs hM => ?_)
  refine r_topv (v := fullT t k) (hN.2.2.2.2.2.1.full hk) ?_
  refine lv_topi (fun v_8 ev_8 => ?_)
  refine lv_istore_n (lv' := [(3, .int v_8), (0, .ref (A.tw j)), (1, .ref (A.ce j k)), (2, .int (nI m))]) hx hb dX1_goes_4 rfl hl (by decide) rfl (fun ls hl => ?_)
  subst ev_8
  refine lv_iload_n hx hb dX1_goes_5 rfl (lv_at hl 3 rfl) ?_
  refine lv_istore (lv' := [(4, .int (nI m)), (3, .int (fullT t k)), (0, .ref (A.tw j)), (1, .ref (A.ce j k)), (2, .int (nI m))]) hx hb dX1_goes_6 hl (by decide) rfl (fun ls hl => ?_)
  refine lv_iconst (v := 0) hx hb dX1_goes_8 (by decide) ?_
  refine lv_istore (lv' := [(5, .int 0), (4, .int (nI m)), (3, .int (fullT t k)), (0, .ref (A.tw j)), (1, .ref (A.ce j k)), (2, .int (nI m))]) hx hb dX1_goes_9 hl (by decide) rfl (fun ls hl => ?_)
  exact loop1 4 0 (nI m) ka (by omega) (Nat.zero_le _) rfl (fun q hq => absurd hq (Nat.not_lt_zero _)) But.refl _ _ _ (lv_sub hl [3, 4, 5, 2, 1, 0] rfl) hM
end
