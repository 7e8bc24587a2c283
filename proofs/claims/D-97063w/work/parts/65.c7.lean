/-! the component: an hour -/
set_option maxRecDepth 100000
section
variable {l : Launch} {G : GG} {th : Th} {rh : Rh} {ph : Ph} {ka : Ka} {A : XA} {j : Nat} {K : Nat → Option Nat} {t : Row} {u s : Nat}
def inX (t : Row) (c : Nat) (g : Nat → Int32) : Nat → Row
  | 0 => t
  | i + 1 => rw1 (inX t c g i) (7 + 6 * c + (3 + i)) (t (7 + 6 * c + (3 + i)) + g i)
theorem inX_at {t : Row} {c : Nat} {g : Nat → Int32} : ∀ {i q : Nat}, i ≤ q → inX t c g i (7 + 6 * c + (3 + q)) = t (7 + 6 * c + (3 + q))
  | 0, _, _ => rfl
  | i + 1, q, h => by
    show rw1 (inX t c g i) _ _ _ = _
    rw [rw1_n _ (by omega)]
    exact inX_at (by omega)
theorem inX_nC {t : Row} {c : Nat} {g : Nat → Int32} : ∀ i, nC (inX t c g i) = nC t
  | 0 => rfl
  | i + 1 => by
    show nC (rw1 _ _ _) = _
    rw [nC_rw (by omega)]
    exact inX_nC i
theorem inX_3 {t : Row} {c : Nat} {g : Nat → Int32} : inX t c g 3 = inT t c g := by
  funext x
  unfold inT
  show rw1 (rw1 (rw1 t (7 + 6 * c + (3 + 0)) _) (7 + 6 * c + (3 + 1)) _) (7 + 6 * c + (3 + 2)) _ x = _
  by_cases c0 : x = 7 + 6 * c + 3
  · subst c0; rw [if_pos rfl, rw1_n _ (by omega), rw1_n _ (by omega), rw1_s]
  · rw [if_neg c0]
    by_cases c1 : x = 7 + 6 * c + 4
    · subst c1; rw [if_pos rfl, rw1_n _ (by omega), rw1_s]
    · rw [if_neg c1]
      by_cases c2 : x = 7 + 6 * c + 5
      · subst c2; rw [if_pos rfl, rw1_s]
      · rw [if_neg c2, rw1_n _ (by omega), rw1_n _ (by omega), rw1_n _ (by omega)]
theorem neg_le {r : Nat} (h : r < 2 ^ 31) : -nI r ≤ 0 := by
  have e : (-nI r).toInt = -(r : Int) := by
    rw [Int32.toInt_neg, nI_toInt h]
    exact Int.bmod_eq_of_le (by omega) (by omega)
  rw [i32_le, e]
  show _ ≤ (0 : Int)
  omega
theorem neg_0 {r : Nat} (h : r < 2 ^ 31) (e : -nI r = 0) : r = 0 := by
  have e1 : (-nI r).toInt = -(r : Int) := by
    rw [Int32.toInt_neg, nI_toInt h]
    exact Int.bmod_eq_of_le (by omega) (by omega)
  rw [e] at e1
  have : (0 : Int32).toInt = 0 := rfl
  omega
set_option maxHeartbeats 4000000 in
theorem ok_X1_runsThrough (hN : Tn th rh ka A j K t) (hnow : rh 0 1 = some (A.tw j)) (hj : j ≤ 2) (hB : Bok u s t) (hOv : OvN u s) {p : Nat} (hp : p < nP t) : Met l yX1_runsThrough (ws_ yX1_runsThrough cX1_runsThrough 5 none) (RM 109 0 0) (Pc_ G [.ref (A.tw j), .int (nI p)] th rh ph ka) (Qv G th rh ph (fun ka' => RepT ka' j (flT t p) ∧ ButT j ka ka')) 0 0 (frG G) := by
  refine m_of (by decide) (Nat.le_of_ble_eq_true rfl) ?_
  intro p_ e_ s_ m_ below_ meth_ c_ B hr hnm ls hl hM
  have hx := B.1
  have hb := B.2.1
  have hM := hM
  have hO := hN.1
  have hW := hN.2.1
  have hR := hN.2.2.2.2.1
  have h8 := hR.1.2
  have h13 := hR.2.1.2
  obtain ⟨hPA, hA, hPB, hBB⟩ := hR.2.2.2.1 p hp
  obtain ⟨r0, er0, hr1, hr2, hhi, hlo⟩ := hB.runs hOv hR hp
  refine lv_aload_n hx hb dX1_runsThrough_0 rfl (lv_at hl 0 rfl) ?_
  refine lv_iload_n hx hb dX1_runsThrough_1 rfl (lv_at hl 1 rfl) ?_
  refine k_i (r_V (As := [.int (nI p)]) (rest := []) B hM hW.1 rfl rfl (ok_X1_flow hN hnow hj hB hOv (p := p) hp) cal_X1_flow q755 rfl hl.1 (Nat.le_of_ble_eq_true rfl) dX1_runsThrough_2 ⟨Nat.le_of_ble_eq_true rfl, Nat.le_of_ble_eq_true rfl⟩ ⟨Nat.le_of_ble_eq_true rfl, Nat.le_of_ble_eq_true rfl⟩) hM (fun r_1 ka_2 H locs p_3 hM => ?_)
  obtain ⟨hfr, hq⟩ := p_3
  have hN1 := hN.but hq hj (by decide)
  rw [er0] at hfr
  refine lv_istore_n (lv' := [(2, .int r_1), (0, .ref (A.tw j)), (1, .int (nI p))]) hx hb dX1_runsThrough_5 rfl hl (by decide) rfl (fun ls hl => ?_)
  refine lv_iload_n hx hb dX1_runsThrough_6 rfl (lv_at hl 0 rfl) ?_
  refine lv_if_eq (tgt := 102) hx hb dX1_runsThrough_7 (by decide) (fun c7 => ?_) (fun c7 => ?_)
  · refine r_vret B hr hM dX1_runsThrough_102 ?_
    have hz : r0 = 0 := by
      rw [c7] at hfr
      by_cases q : levelT t (pB t p) < levelT t (pA t p)
      · rw [if_pos q] at hfr; exact ((nI_eq (a := 0) (by decide) (by omega)).mp hfr).symm
      · rw [if_neg q] at hfr; exact neg_0 (by omega) hfr.symm
    refine ⟨?_, But.bt hq⟩
    unfold flT
    rw [er0, hz, if_neg (by decide)]
    exact hN1.2.2.2.2.2.1
  · have hr0 : 0 < r0 := Nat.pos_of_ne_zero (fun z => c7 (by rw [hfr, z]; split <;> rfl))
    refine lv_aload_n hx hb dX1_runsThrough_10 rfl (lv_at hl 1 rfl) ?_
    refine lv_aload_n hx hb dX1_runsThrough_11 rfl (lv_at hl 1 rfl) ?_
    refine r_getq B hM 11 hW.1 rfl (by decide) rfl rfl (hW.2.1 11 _ _ rfl).1 q144 dX1_runsThrough_12 ?_
    refine lv_iload_n hx hb dX1_runsThrough_15 rfl (lv_at hl 0 rfl) ?_
    refine lv_if_le (tgt := 28) hx hb dX1_runsThrough_16 (by decide) (fun c16 => ?_) (fun c16 => ?_)
    · have hlt : ¬ levelT t (pB t p) < levelT t (pA t p) := fun z => by
        rw [hfr, if_pos z] at c16
        exact absurd c16 (nI_nle hr0 (by omega))
      have e1 : higherT t p = pB t p := if_neg hlt
      have e2 : lowerT t p = pA t p := if_neg hlt
      refine lv_aload_n hx hb dX1_runsThrough_28 rfl (lv_at hl 1 rfl) ?_
      refine r_getq B hM 8 hW.1 rfl (by decide) rfl rfl (hW.2.1 8 _ _ rfl).1 q138 dX1_runsThrough_29 ?_
      refine lv_iload_n hx hb dX1_runsThrough_32 rfl (lv_at hl 2 rfl) ?_
      refine r_ild B hM p (show th (A.ta j 8) = some (41 + 10 * j, .inr (0, 13)) from (hW.2.1 8 _ _ rfl).2) rfl (by omega) (by decide) dX1_runsThrough_33 ?_
      refine r_topv (v := t (55 + 4 * p + 1)) ((hN1.2.2.2.2.2.1.2.1 p (by omega)).2.1) ?_
      obtain ⟨kd1, hke1, hkt1⟩ := hN1.2.2.2.1 (pB t p) hBB
      obtain ⟨hp1, hC1⟩ := hN1.2.2.1.at (Nat.lt_of_lt_of_le hBB hN1.2.2.2.2.1.1.2) hke1
      obtain ⟨rc1, hr_1, hrN1, hr01, hr11, hr21, hr31, hg01, hg11, hg21, hg31, hrC1⟩ := gC4 hC1.2.2.2.2
      refine r_aldq B hM (pB t p) (show th (A.ta j 11) = some (44 + 10 * j, .inr (6, 8)) from (hW.2.1 11 _ _ rfl).2) rfl (by decide) (by rw [hPB]) (by omega) (by decide) hp1 dX1_runsThrough_34 ?_
      refine lv_iload_n hx hb dX1_runsThrough_35 rfl (lv_at hl 0 rfl) ?_
      refine va_mabs hx hb (B.2.2.1.trans hl.1.symm) B.2.2.2.1 (B.ts _ q761) (B.ts _ q762) (B.ts _ q83) (B.ts _ q763) (Nat.le_of_ble_eq_true rfl) (Nat.le_of_ble_eq_true rfl) (Nat.le_of_ble_eq_true rfl) (Nat.le_of_ble_eq_true rfl) dX1_runsThrough_36 ?_
      refine r_topv (v := nI r0) (abs_nat (by omega) hfr) ?_
      refine k_v (r_V (As := [.ref (A.ce j (pB t p)), .int (nI r0)]) (rest := []) B hM hW.1 rfl rfl (ok_X1_goes hN1 hj hB hOv (k := pB t p) (m := r0) hBB ⟨by rw [← e1]; exact hr1, Or.inr hr2⟩) cal_X1_goes q801 rfl hl.1 (Nat.le_of_ble_eq_true rfl) dX1_runsThrough_39 ⟨Nat.le_of_ble_eq_true rfl, Nat.le_of_ble_eq_true rfl⟩ ⟨Nat.le_of_ble_eq_true rfl, Nat.le_of_ble_eq_true rfl⟩) hM (fun ka_4 H locs p_5 hM => ?_)
      obtain ⟨hrp, hgo, hbt⟩ := p_5
      have hsq : Seq t (drT t (pB t p) (nI r0)) := drT_seq (by omega) _
      have hN2 := hN1.step hj hbt hsq hrp
      have hPA2 : (drT t (pB t p) (nI r0)) (55 + 4 * p + 0) = nI (pA t p) := (hsq.pi p 0).trans hPA
      have hPB2 : (drT t (pB t p) (nI r0)) (55 + 4 * p + 1) = nI (pB t p) := (hsq.pi p 1).trans hPB
      have hA2 : pA t p < nC (drT t (pB t p) (nI r0)) := by rw [hsq.nC]; exact hA
      have hBB2 : pB t p < nC (drT t (pB t p) (nI r0)) := by rw [hsq.nC]; exact hBB
      have hbt0 : ButT j ka ka_4 := (But.bt hq).trans hbt
      refine lv_aload_n hx hb dX1_runsThrough_42 rfl (lv_at hl 1 rfl) ?_
      refine r_getq B hM 11 hW.1 rfl (by decide) rfl rfl (hW.2.1 11 _ _ rfl).1 q144 dX1_runsThrough_43 ?_
      refine lv_iload_n hx hb dX1_runsThrough_46 rfl (lv_at hl 0 rfl) ?_
      refine lv_if_le (tgt := 59) hx hb dX1_runsThrough_47 (by decide) (fun c47 => ?_) (fun cZ => absurd c16 cZ)
      refine lv_aload_n hx hb dX1_runsThrough_59 rfl (lv_at hl 1 rfl) ?_
      refine r_getq B hM 7 hW.1 rfl (by decide) rfl rfl (hW.2.1 7 _ _ rfl).1 q136 dX1_runsThrough_60 ?_
      refine lv_iload_n hx hb dX1_runsThrough_63 rfl (lv_at hl 2 rfl) ?_
      refine r_ild B hM p (show th (A.ta j 7) = some (40 + 10 * j, .inr (0, 13)) from (hW.2.1 7 _ _ rfl).2) rfl (by omega) (by decide) dX1_runsThrough_64 ?_
      refine r_topv (v := (drT t (pB t p) (nI r0)) (55 + 4 * p + 0)) ((hN2.2.2.2.2.2.1.2.1 p (by omega)).1) ?_
      obtain ⟨kd2, hke2, hkt2⟩ := hN2.2.2.2.1 (pA t p) hA2
      obtain ⟨hp2, hC2⟩ := hN2.2.2.1.at (Nat.lt_of_lt_of_le hA2 hN2.2.2.2.2.1.1.2) hke2
      obtain ⟨rc2, hr_2, hrN2, hr02, hr12, hr22, hr32, hg02, hg12, hg22, hg32, hrC2⟩ := gC4 hC2.2.2.2.2
      refine r_aldq B hM (pA t p) (show th (A.ta j 11) = some (44 + 10 * j, .inr (6, 8)) from (hW.2.1 11 _ _ rfl).2) rfl (by decide) (by rw [hPA2]) (by omega) (by decide) hp2 dX1_runsThrough_65 ?_
      refine lv_astore_n (lv' := [(3, .ref (A.ce j (pA t p))), (2, .int r_1), (0, .ref (A.tw j)), (1, .int (nI p))]) hx hb dX1_runsThrough_66 rfl hl (by decide) rfl (fun ls hl => ?_)
      have loop : ∀ (fu_loop : Nat) (i : Nat) (kb : Ka), 3 - i < fu_loop → (i ≤ 3) → (RepT kb j (inX (drT t (pB t p) (nI r0)) (pA t p) (goT t (pB t p) (nI r0)) i)) → (∀ q, q < 3 → kb 1 q = (goT t (pB t p) (nI r0)) q) → (ButT j ka_4 kb) → ∀ (ls : Array Slot) (H : Heap) (locs : List Loc), lv_has ls 5 [(0, .ref (A.tw j)), (3, .ref (A.ce j (pA t p))), (4, .int (nI i))] → Md G th rh ph kb H locs → W p_ l e_ (RM 109 0 0) s_ m_ ([.ref (A.tw j), .int (nI p)].toArray) below_ meth_ c_ H locs 0 0 (MQ below_ (Qv G th rh ph (fun ka' => RepT ka' j (flT t p) ∧ ButT j ka ka')) ([.ref (A.tw j), .int (nI p)].toArray) s_ 0 0 (frG G)) (F0 m_ 70 ls []) := by
        intro fu_loop
        induction fu_loop with
        | zero => intro i kb hfu; exact absurd hfu (Nat.not_lt_zero _)
        | succ fu_loop ih_loop =>
          intro i kb hfu_loop hi hrq hgi hbi ls H locs hl hM
          refine lv_iload hx hb dX1_runsThrough_70 (lv_at hl 2 rfl) ?_
          refine lv_iconst (v := 3) hx hb dX1_runsThrough_72 (by decide) ?_
          refine lv_icmp_ge (tgt := 102) hx hb dX1_runsThrough_73 (by decide) (fun c73 => ?_) (fun c73 => ?_)
          · have n73 : 3 ≤ i := ntLe rfl rfl (by omega) (by omega) c73
            refine r_vret B hr hM dX1_runsThrough_102 ?_
            have hi3 : i = 3 := by omega
            subst hi3
            rw [inX_3] at hrq
            refine ⟨?_, hbt0.trans hbi⟩
            unfold flT
            rw [er0, if_pos (show (0 : Int32) < nI r0 from (nI_ltI (a := 0) (by decide) (by omega)).mpr hr0), e1, e2]
            exact hrq
          · have n73 : i < 3 := ntNle rfl rfl (by omega) (by omega) c73
            refine lv_aload_n hx hb dX1_runsThrough_76 rfl (lv_at hl 1 rfl) ?_
            refine r_getq B hM 2 hC2.1 hr_2 (by rw [hrN2]; decide) hr22 hg22 hC2.2.1 q293 dX1_runsThrough_77 ?_
            refine lv_iload hx hb dX1_runsThrough_80 (lv_at hl 2 rfl) ?_
            refine lv_dup2_11 hx hb dX1_runsThrough_82 rfl rfl ?_
            refine r_ild B hM i hC2.2.2.2.1 rfl (by omega) (by decide) dX1_runsThrough_83 ?_
            refine r_topv (v := (drT t (pB t p) (nI r0)) (7 + 6 * (pA t p) + (3 + i))) (((hrq.2.2 (pA t p) (by rw [inX_nC]; exact hA2)).2.2 i n73).trans (inX_at (Nat.le_refl _))) ?_
            refine lv_aload_n hx hb dX1_runsThrough_84 rfl (lv_at hl 0 rfl) ?_
            refine r_getq B hM 13 hW.1 rfl (by decide) rfl rfl hW.2.2 q148 dX1_runsThrough_85 ?_
            refine r_getqN B hM 0 hO.1 rfl (by decide) rfl rfl (hO.2 0 _ _ rfl).1 q193 dX1_runsThrough_88 ?_
            refine lv_iload hx hb dX1_runsThrough_91 (lv_at hl 2 rfl) ?_
            refine r_ild B hM i (hO.2 0 _ _ rfl).2 rfl (by omega) (by decide) dX1_runsThrough_93 ?_
            refine r_topv (v := goT t (pB t p) (nI r0) i) (hgi i n73) ?_
            refine lv_iadd hx hb dX1_runsThrough_94 ?_
            refine r_ist B hM i hC2.2.2.2.1 rfl (by omega) (by decide) dX1_runsThrough_95 (fun ka_6 H locs eka_6 hM => ?_)
            refine lv_iinc (v := nI (i + 1)) (lv' := [(4, .int (nI (i + 1))), (0, .ref (A.tw j)), (3, .ref (A.ce j (pA t p)))]) hx hb dX1_runsThrough_96 hl (k := 2) rfl (nI_1 _) (by decide) rfl (fun ls hl => ?_)
            refine lv_goto (tgt := 70) hx hb dX1_runsThrough_99 (by decide) ?_
            exact ih_loop (i + 1) ka_6 (by omega) (by omega) (by rw [eka_6]; exact RepT.wine hrq (by rw [inX_nC]; exact hA2) n73 hj (by rw [inX_nC, hsq.nC]; exact h8)) (fun q hq => by rw [eka_6, up2_a _ _ _ (by omega)]; exact hgi q hq) (hbi.trans (ButT.up eka_6 (by omega))) _ _ _ (lv_sub hl [1, 2, 0] rfl) hM
      refine lv_iconst (v := 0) hx hb dX1_runsThrough_67 (by decide) ?_
      refine lv_istore (lv' := [(4, .int 0), (3, .ref (A.ce j (pA t p))), (2, .int r_1), (0, .ref (A.tw j)), (1, .int (nI p))]) hx hb dX1_runsThrough_68 hl (by decide) rfl (fun ls hl => ?_)
      exact loop 4 0 ka_4 (by omega) (Nat.zero_le _) hrp hgo ButT.refl _ _ _ (lv_sub hl [3, 1, 0] rfl) hM
    · have hlt : levelT t (pB t p) < levelT t (pA t p) := Classical.byContradiction (fun z => c16 (by rw [hfr, if_neg z]; exact neg_le (by omega)))
      have e1 : higherT t p = pA t p := if_pos hlt
      have e2 : lowerT t p = pB t p := if_pos hlt
      refine lv_aload_n hx hb dX1_runsThrough_19 rfl (lv_at hl 1 rfl) ?_
      refine r_getq B hM 7 hW.1 rfl (by decide) rfl rfl (hW.2.1 7 _ _ rfl).1 q136 dX1_runsThrough_20 ?_
      refine lv_iload_n hx hb dX1_runsThrough_23 rfl (lv_at hl 2 rfl) ?_
      refine r_ild B hM p (show th (A.ta j 7) = some (40 + 10 * j, .inr (0, 13)) from (hW.2.1 7 _ _ rfl).2) rfl (by omega) (by decide) dX1_runsThrough_24 ?_
      refine r_topv (v := t (55 + 4 * p + 0)) ((hN1.2.2.2.2.2.1.2.1 p (by omega)).1) ?_
      refine lv_goto (tgt := 34) hx hb dX1_runsThrough_25 (by decide) ?_
      obtain ⟨kd1, hke1, hkt1⟩ := hN1.2.2.2.1 (pA t p) hA
      obtain ⟨hp1, hC1⟩ := hN1.2.2.1.at (Nat.lt_of_lt_of_le hA hN1.2.2.2.2.1.1.2) hke1
      obtain ⟨rc1, hr_1, hrN1, hr01, hr11, hr21, hr31, hg01, hg11, hg21, hg31, hrC1⟩ := gC4 hC1.2.2.2.2
      refine r_aldq B hM (pA t p) (show th (A.ta j 11) = some (44 + 10 * j, .inr (6, 8)) from (hW.2.1 11 _ _ rfl).2) rfl (by decide) (by rw [hPA]) (by omega) (by decide) hp1 dX1_runsThrough_34 ?_
      refine lv_iload_n hx hb dX1_runsThrough_35 rfl (lv_at hl 0 rfl) ?_
      refine va_mabs hx hb (B.2.2.1.trans hl.1.symm) B.2.2.2.1 (B.ts _ q761) (B.ts _ q762) (B.ts _ q83) (B.ts _ q763) (Nat.le_of_ble_eq_true rfl) (Nat.le_of_ble_eq_true rfl) (Nat.le_of_ble_eq_true rfl) (Nat.le_of_ble_eq_true rfl) dX1_runsThrough_36 ?_
      refine r_topv (v := nI r0) (abs_nat (by omega) hfr) ?_
      refine k_v (r_V (As := [.ref (A.ce j (pA t p)), .int (nI r0)]) (rest := []) B hM hW.1 rfl rfl (ok_X1_goes hN1 hj hB hOv (k := pA t p) (m := r0) hA ⟨by rw [← e1]; exact hr1, Or.inr hr2⟩) cal_X1_goes q801 rfl hl.1 (Nat.le_of_ble_eq_true rfl) dX1_runsThrough_39 ⟨Nat.le_of_ble_eq_true rfl, Nat.le_of_ble_eq_true rfl⟩ ⟨Nat.le_of_ble_eq_true rfl, Nat.le_of_ble_eq_true rfl⟩) hM (fun ka_7 H locs p_8 hM => ?_)
      obtain ⟨hrp, hgo, hbt⟩ := p_8
      have hsq : Seq t (drT t (pA t p) (nI r0)) := drT_seq (by omega) _
      have hN2 := hN1.step hj hbt hsq hrp
      have hPA2 : (drT t (pA t p) (nI r0)) (55 + 4 * p + 0) = nI (pA t p) := (hsq.pi p 0).trans hPA
      have hPB2 : (drT t (pA t p) (nI r0)) (55 + 4 * p + 1) = nI (pB t p) := (hsq.pi p 1).trans hPB
      have hA2 : pA t p < nC (drT t (pA t p) (nI r0)) := by rw [hsq.nC]; exact hA
      have hBB2 : pB t p < nC (drT t (pA t p) (nI r0)) := by rw [hsq.nC]; exact hBB
      have hbt0 : ButT j ka ka_7 := (But.bt hq).trans hbt
      refine lv_aload_n hx hb dX1_runsThrough_42 rfl (lv_at hl 1 rfl) ?_
      refine r_getq B hM 11 hW.1 rfl (by decide) rfl rfl (hW.2.1 11 _ _ rfl).1 q144 dX1_runsThrough_43 ?_
      refine lv_iload_n hx hb dX1_runsThrough_46 rfl (lv_at hl 0 rfl) ?_
      refine lv_if_le (tgt := 59) hx hb dX1_runsThrough_47 (by decide) (fun cZ => absurd cZ c16) (fun c47 => ?_)
      refine lv_aload_n hx hb dX1_runsThrough_50 rfl (lv_at hl 1 rfl) ?_
      refine r_getq B hM 8 hW.1 rfl (by decide) rfl rfl (hW.2.1 8 _ _ rfl).1 q138 dX1_runsThrough_51 ?_
      refine lv_iload_n hx hb dX1_runsThrough_54 rfl (lv_at hl 2 rfl) ?_
      refine r_ild B hM p (show th (A.ta j 8) = some (41 + 10 * j, .inr (0, 13)) from (hW.2.1 8 _ _ rfl).2) rfl (by omega) (by decide) dX1_runsThrough_55 ?_
      refine r_topv (v := (drT t (pA t p) (nI r0)) (55 + 4 * p + 1)) ((hN2.2.2.2.2.2.1.2.1 p (by omega)).2.1) ?_
      refine lv_goto (tgt := 65) hx hb dX1_runsThrough_56 (by decide) ?_
      obtain ⟨kd2, hke2, hkt2⟩ := hN2.2.2.2.1 (pB t p) hBB2
      obtain ⟨hp2, hC2⟩ := hN2.2.2.1.at (Nat.lt_of_lt_of_le hBB2 hN2.2.2.2.2.1.1.2) hke2
      obtain ⟨rc2, hr_2, hrN2, hr02, hr12, hr22, hr32, hg02, hg12, hg22, hg32, hrC2⟩ := gC4 hC2.2.2.2.2
      refine r_aldq B hM (pB t p) (show th (A.ta j 11) = some (44 + 10 * j, .inr (6, 8)) from (hW.2.1 11 _ _ rfl).2) rfl (by decide) (by rw [hPB2]) (by omega) (by decide) hp2 dX1_runsThrough_65 ?_
      refine lv_astore_n (lv' := [(3, .ref (A.ce j (pB t p))), (2, .int r_1), (0, .ref (A.tw j)), (1, .int (nI p))]) hx hb dX1_runsThrough_66 rfl hl (by decide) rfl (fun ls hl => ?_)
      have loop : ∀ (fu_loop : Nat) (i : Nat) (kb : Ka), 3 - i < fu_loop → (i ≤ 3) → (RepT kb j (inX (drT t (pA t p) (nI r0)) (pB t p) (goT t (pA t p) (nI r0)) i)) → (∀ q, q < 3 → kb 1 q = (goT t (pA t p) (nI r0)) q) → (ButT j ka_7 kb) → ∀ (ls : Array Slot) (H : Heap) (locs : List Loc), lv_has ls 5 [(0, .ref (A.tw j)), (3, .ref (A.ce j (pB t p))), (4, .int (nI i))] → Md G th rh ph kb H locs → W p_ l e_ (RM 109 0 0) s_ m_ ([.ref (A.tw j), .int (nI p)].toArray) below_ meth_ c_ H locs 0 0 (MQ below_ (Qv G th rh ph (fun ka' => RepT ka' j (flT t p) ∧ ButT j ka ka')) ([.ref (A.tw j), .int (nI p)].toArray) s_ 0 0 (frG G)) (F0 m_ 70 ls []) := by
        intro fu_loop
        induction fu_loop with
        | zero => intro i kb hfu; exact absurd hfu (Nat.not_lt_zero _)
        | succ fu_loop ih_loop =>
          intro i kb hfu_loop hi hrq hgi hbi ls H locs hl hM
          refine lv_iload hx hb dX1_runsThrough_70 (lv_at hl 2 rfl) ?_
          refine lv_iconst (v := 3) hx hb dX1_runsThrough_72 (by decide) ?_
          refine lv_icmp_ge (tgt := 102) hx hb dX1_runsThrough_73 (by decide) (fun c73 => ?_) (fun c73 => ?_)
          · have n73 : 3 ≤ i := ntLe rfl rfl (by omega) (by omega) c73
            refine r_vret B hr hM dX1_runsThrough_102 ?_
            have hi3 : i = 3 := by omega
            subst hi3
            rw [inX_3] at hrq
            refine ⟨?_, hbt0.trans hbi⟩
            unfold flT
            rw [er0, if_pos (show (0 : Int32) < nI r0 from (nI_ltI (a := 0) (by decide) (by omega)).mpr hr0), e1, e2]
            exact hrq
          · have n73 : i < 3 := ntNle rfl rfl (by omega) (by omega) c73
            refine lv_aload_n hx hb dX1_runsThrough_76 rfl (lv_at hl 1 rfl) ?_
            refine r_getq B hM 2 hC2.1 hr_2 (by rw [hrN2]; decide) hr22 hg22 hC2.2.1 q293 dX1_runsThrough_77 ?_
            refine lv_iload hx hb dX1_runsThrough_80 (lv_at hl 2 rfl) ?_
            refine lv_dup2_11 hx hb dX1_runsThrough_82 rfl rfl ?_
            refine r_ild B hM i hC2.2.2.2.1 rfl (by omega) (by decide) dX1_runsThrough_83 ?_
            refine r_topv (v := (drT t (pA t p) (nI r0)) (7 + 6 * (pB t p) + (3 + i))) (((hrq.2.2 (pB t p) (by rw [inX_nC]; exact hBB2)).2.2 i n73).trans (inX_at (Nat.le_refl _))) ?_
            refine lv_aload_n hx hb dX1_runsThrough_84 rfl (lv_at hl 0 rfl) ?_
            refine r_getq B hM 13 hW.1 rfl (by decide) rfl rfl hW.2.2 q148 dX1_runsThrough_85 ?_
            refine r_getqN B hM 0 hO.1 rfl (by decide) rfl rfl (hO.2 0 _ _ rfl).1 q193 dX1_runsThrough_88 ?_
            refine lv_iload hx hb dX1_runsThrough_91 (lv_at hl 2 rfl) ?_
            refine r_ild B hM i (hO.2 0 _ _ rfl).2 rfl (by omega) (by decide) dX1_runsThrough_93 ?_
            refine r_topv (v := goT t (pA t p) (nI r0) i) (hgi i n73) ?_
            refine lv_iadd hx hb dX1_runsThrough_94 ?_
            refine r_ist B hM i hC2.2.2.2.1 rfl (by omega) (by decide) dX1_runsThrough_95 (fun ka_9 H locs eka_9 hM => ?_)
            refine lv_iinc (v := nI (i + 1)) (lv' := [(4, .int (nI (i + 1))), (0, .ref (A.tw j)), (3, .ref (A.ce j (pB t p)))]) hx hb dX1_runsThrough_96 hl (k := 2) rfl (nI_1 _) (by decide) rfl (fun ls hl => ?_)
            refine lv_goto (tgt := 70) hx hb dX1_runsThrough_99 (by decide) ?_
            exact ih_loop (i + 1) ka_9 (by omega) (by omega) (by rw [eka_9]; exact RepT.wine hrq (by rw [inX_nC]; exact hBB2) n73 hj (by rw [inX_nC, hsq.nC]; exact h8)) (fun q hq => by rw [eka_9, up2_a _ _ _ (by omega)]; exact hgi q hq) (hbi.trans (ButT.up eka_9 (by omega))) _ _ _ (lv_sub hl [1, 2, 0] rfl) hM
      refine lv_iconst (v := 0) hx hb dX1_runsThrough_67 (by decide) ?_
      refine lv_istore (lv' := [(4, .int 0), (3, .ref (A.ce j (pB t p))), (2, .int r_1), (0, .ref (A.tw j)), (1, .int (nI p))]) hx hb dX1_runsThrough_68 hl (by decide) rfl (fun ls hl => ?_)
      exact loop 4 0 ka_7 (by omega) (Nat.zero_le _) hrp hgo ButT.refl _ _ _ (lv_sub hl [3, 1, 0] rfl) hM
set_option maxHeartbeats 4000000 in
theorem ok_X1_spills (hN : Tn th rh ka A j K t) (hj : j ≤ 2) (hB : Bok u s t) (hOv : OvN u s) {k m : Nat} (hk : k < nC t) (hm : mayGo t k m) : Met l yX1_spills (ws_ yX1_spills cX1_spills 3 none) (RM 3 0 0) (Pc_ G [.ref (A.tw j), .ref (A.ce j k), .int (nI m)] th rh ph ka) (Qv G th rh ph (fun ka' => RepT ka' j (spT t k (nI m)) ∧ ButT j ka ka')) 0 0 (frG G) := by
  refine m_of (by decide) (Nat.le_of_ble_eq_true rfl) ?_
  intro p_ e_ s_ m_ below_ meth_ c_ B hr hnm ls hl hM
  have hx := B.1
  have hb := B.2.1
  have hM := hM
  have hO := hN.1
  have hW := hN.2.1
  have hR := hN.2.2.2.2.1
  have h8 := hR.1.2
  have h13 := hR.2.1.2
  obtain ⟨kd1, hke1, hkt1⟩ := hN.2.2.2.1 k hk
  obtain ⟨hp1, hC1⟩ := hN.2.2.1.at (Nat.lt_of_lt_of_le hk hN.2.2.2.2.1.1.2) hke1
  obtain ⟨rc1, hr_1, hrN1, hr01, hr11, hr21, hr31, hg01, hg11, hg21, hg31, hrC1⟩ := gC4 hC1.2.2.2.2
  refine lv_aload_n hx hb dX1_spills_0 rfl (lv_at hl 0 rfl) ?_
  refine lv_aload_n hx hb dX1_spills_1 rfl (lv_at hl 1 rfl) ?_
  refine lv_iload_n hx hb dX1_spills_2 rfl (lv_at hl 2 rfl) ?_
  refine k_v (r_V (As := [.ref (A.ce j k), .int (nI m)]) (rest := []) B hM hW.1 rfl rfl (ok_X1_goes hN hj hB hOv (k := k) (m := m) hk hm) cal_X1_goes q801 rfl hl.1 (Nat.le_of_ble_eq_true rfl) dX1_spills_3 ⟨Nat.le_of_ble_eq_true rfl, Nat.le_of_ble_eq_true rfl⟩ ⟨Nat.le_of_ble_eq_true rfl, Nat.le_of_ble_eq_true rfl⟩) hM (fun ka_1 H locs p_2 hM => ?_)
  obtain ⟨hrp, hgo, hbt⟩ := p_2
  have hsq : Seq t (drT t k (nI m)) := drT_seq (by omega) _
  have hN2 := hN.step hj hbt hsq hrp
  refine lv_aload_n hx hb dX1_spills_6 rfl (lv_at hl 0 rfl) ?_
  refine lv_dup hx hb dX1_spills_7 rfl ?_
  refine r_geti B hM 5 hW.1 rfl (by decide) rfl rfl q132 dX1_spills_8 ?_
  refine r_topv (v := (drT t k (nI m)) 5) (hN2.2.2.2.2.2.1.1.2.2.2.2.2.1) ?_
  refine lv_iload_n hx hb dX1_spills_11 rfl (lv_at hl 2 rfl) ?_
  refine lv_iadd hx hb dX1_spills_12 ?_
  refine r_puti B hM 5 hW.1 rfl (by decide) rfl rfl q132 dX1_spills_13 (fun ka_3 H locs eka_3 hM => ?_)
  refine r_vret B hr hM dX1_spills_16 ?_
  refine ⟨?_, hbt.trans (ButT.up eka_3 (by omega))⟩
  unfold spT
  rw [show t 5 = drT t k (nI m) 5 by unfold drT; rw [if_neg (by omega), if_neg (by omega), if_neg (by omega)], eka_3]
  exact RepT.num (f := 5) hrp (by omega) hj (by rw [hsq.nC]; exact h8)
set_option maxHeartbeats 4000000 in
theorem ok_X1_goesOn (hN : Tn th rh ka A j K t) (hnow : rh 0 1 = some (A.tw j)) (hj : j ≤ 2) (hB : Bok u s t) (hOv : OvN u s)  : Met l yX1_goesOn (ws_ yX1_goesOn cX1_goesOn 4 (some .int)) (RM 110 0 0) (Pc_ G [.ref (A.tw j)] th rh ph ka) (Qi G th rh ph (fun r ka' => r = hourT t 5 - t 5 ∧ RepT ka' j (hourT t) ∧ ButT j ka ka')) 0 0 (frG G) := by
  refine m_of (by decide) (Nat.le_of_ble_eq_true rfl) ?_
  intro p_ e_ s_ m_ below_ meth_ c_ B hr hnm ls hl hM
  have hx := B.1
  have hb := B.2.1
  have hM := hM
  have hO := hN.1
  have hW := hN.2.1
  have hR := hN.2.2.2.2.1
  have h8 := hR.1.2
  have h13 := hR.2.1.2
  obtain ⟨t1, ht1⟩ : ∃ t1, t1 = st1 t := ⟨_, rfl⟩
  have hs1 : Seq t t1 := by rw [ht1]; exact st1_seq hR
  have hB1 : Bok u s t1 := by rw [ht1]; exact (hB.step1 hOv hR (Nat.le_refl _)).1
  have hR1 := hs1.rok hR
  obtain ⟨t2, ht2⟩ : ∃ t2, t2 = st2 t1 := ⟨_, rfl⟩
  have hs2 : Seq t1 t2 := by rw [ht2]; exact st2_seq hR1
  have hB2 : Bok u s t2 := by rw [ht2]; exact (hB1.step2 hOv hR1 (Nat.le_refl _)).1
  have hR2 := hs2.rok hR1
  have h81 := hR1.1.2
  have h82 := hR2.1.2
  have loop3 : ∀ (fu_loop3 : Nat) (i : Nat) (r : Row) (kb : Ka), nC t2 - i < fu_loop3 → (i ≤ nC t2) → (r = itn st3f i t2) → (Tn th rh kb A j K r) → (ButT j ka kb) → ∀ (ls : Array Slot) (H : Heap) (locs : List Loc), lv_has ls 4 [(0, .ref (A.tw j)), (1, .int (t 5)), (2, .int (nI i))] → Md G th rh ph kb H locs → W p_ l e_ (RM 110 0 0) s_ m_ ([.ref (A.tw j)].toArray) below_ meth_ c_ H locs 0 0 (MQ below_ (Qi G th rh ph (fun r ka' => r = hourT t 5 - t 5 ∧ RepT ka' j (hourT t) ∧ ButT j ka ka')) ([.ref (A.tw j)].toArray) s_ 0 0 (frG G)) (F0 m_ 63 ls []) := by
    intro fu_loop3
    induction fu_loop3 with
    | zero => intro i r kb hfu; exact absurd hfu (Nat.not_lt_zero _)
    | succ fu_loop3 ih_loop3 =>
      intro i r kb hfu_loop3 hi hre hNb hbt ls H locs hl hM
      obtain ⟨hBi, hsi⟩ := hB2.step3 hOv hR2 hi
      rw [← hre] at hBi hsi
      have hRb := hNb.2.2.2.2.1
      have hnc : nC r = nC t2 := hsi.nC
      have h8b := hRb.1.2
      refine lv_iload_n hx hb dX1_goesOn_63 rfl (lv_at hl 2 rfl) ?_
      refine lv_aload_n hx hb dX1_goesOn_64 rfl (lv_at hl 0 rfl) ?_
      refine r_geti B hM 0 hW.1 rfl (by decide) rfl rfl q122 dX1_goesOn_65 ?_
      refine r_topv (v := r 1) (hNb.2.2.2.2.2.1.1.1) ?_
      refine lv_icmp_ge (tgt := 115) hx hb dX1_goesOn_68 (by decide) (fun c68 => ?_) (fun c68 => ?_)
      · have n68 : nC r ≤ i := ntLe (by rw [hNb.2.2.2.2.1.1.1]) rfl (by omega) (by omega) c68
        have hr3 : r = st3 t2 := by rw [hre, show i = nC t2 by omega]; rfl
        refine lv_aload_n hx hb dX1_goesOn_115 rfl (lv_at hl 0 rfl) ?_
        refine k_i (r_V (As := []) (rest := []) B hM hW.1 rfl rfl (ok_X1_drawn hNb hj) cal_X1_drawn q811 rfl hl.1 (Nat.le_of_ble_eq_true rfl) dX1_goesOn_116 ⟨Nat.le_of_ble_eq_true rfl, Nat.le_of_ble_eq_true rfl⟩ ⟨Nat.le_of_ble_eq_true rfl, Nat.le_of_ble_eq_true rfl⟩) hM (fun r_1 ka_2 H locs p_3 hM => ?_)
        obtain ⟨hr1, hrp1, hb4⟩ := p_3
        subst hr1
        obtain ⟨t4, ht4⟩ : ∃ t4, t4 = rw1 r 0 (drawT (r 0)) := ⟨_, rfl⟩
        rw [← ht4] at hrp1
        have hs4 : Seq r t4 := by rw [ht4]; exact rw1_seq (by unfold Wet; omega) _
        have hN4 := hNb.step hj hb4 hs4 hrp1
        have h84 : nC t4 ≤ 8 := hN4.2.2.2.2.1.1.2
        refine lv_bipush (v := 100) hx hb dX1_goesOn_119 (by decide) ?_
        refine lv_irem hx hb dX1_goesOn_121 (by decide) ?_
        refine lv_aload_n hx hb dX1_goesOn_122 rfl (lv_at hl 0 rfl) ?_
        refine r_geti B hM 4 hW.1 rfl (by decide) rfl rfl q130 dX1_goesOn_123 ?_
        refine r_topv (v := t4 4) (hN4.2.2.2.2.2.1.1.2.2.2.2.1) ?_
        refine lv_icmp_ge (tgt := 164) hx hb dX1_goesOn_126 (by decide) (fun c126 => ?_) (fun c126 => ?_)
        · have h4 : st4 r = t4 := by
            unfold st4
            rw [if_neg (fun z => absurd (i_nlt.mp (show ¬ _ from i_nlt.mpr c126)) (i_nle.mpr (by rw [hs4.c4]; exact z.1))), ht4]
          have hbz : ButT j ka ka_2 := hbt.trans hb4
          refine lv_aload_n hx hb dX1_goesOn_164 rfl (lv_at hl 0 rfl) ?_
          refine lv_dup hx hb dX1_goesOn_165 rfl ?_
          refine r_geti B hM 3 hW.1 rfl (by decide) rfl rfl q128 dX1_goesOn_166 ?_
          refine r_topv (v := t4 3) (hN4.2.2.2.2.2.1.1.2.2.2.1) ?_
          refine lv_iconst (v := 1) hx hb dX1_goesOn_169 (by decide) ?_
          refine lv_iadd hx hb dX1_goesOn_170 ?_
          refine r_puti B hM 3 hW.1 rfl (by decide) rfl rfl q128 dX1_goesOn_171 (fun ka_4 H locs eka_4 hM => ?_)
          refine lv_aload_n hx hb dX1_goesOn_174 rfl (lv_at hl 0 rfl) ?_
          refine r_geti B hM 5 hW.1 rfl (by decide) rfl rfl q132 dX1_goesOn_175 ?_
          refine r_topv (v := t4 5) (by rw [eka_4, up2_i _ _ _ _ (by decide)]; exact hN4.2.2.2.2.2.1.1.2.2.2.2.2.1) ?_
          refine lv_iload_n hx hb dX1_goesOn_178 rfl (lv_at hl 1 rfl) ?_
          refine lv_isub hx hb dX1_goesOn_179 ?_
          refine r_iret B hr hM dX1_goesOn_180 ?_
          have hh : hourT t = rw1 t4 3 (t4 3 + 1) := by
            unfold hourT st5
            rw [show st1 t = t1 from ht1.symm, show st2 t1 = t2 from ht2.symm, show st3 t2 = r from hr3.symm, h4]
          refine ⟨?_, ?_, hbz.trans (ButT.up eka_4 (by omega))⟩
          · rw [hh, rw1_n _ (by decide)]
          · rw [hh, eka_4]; exact RepT.num (f := 3) hN4.2.2.2.2.2.1 (by omega) hj hN4.2.2.2.2.1.1.2
        · refine lv_aload_n hx hb dX1_goesOn_129 rfl (lv_at hl 0 rfl) ?_
          refine r_geti B hM 0 hW.1 rfl (by decide) rfl rfl q122 dX1_goesOn_130 ?_
          refine r_topv (v := t4 1) (hN4.2.2.2.2.2.1.1.1) ?_
          refine lv_if_le (tgt := 164) hx hb dX1_goesOn_133 (by decide) (fun c133 => ?_) (fun c133 => ?_)
          · have n133 : nC t4 ≤ 0 := ntLe (by rw [hN4.2.2.2.2.1.1.1]) rfl (by omega) (by omega) c133
            have h4 : st4 r = t4 := by
              unfold st4
              rw [if_neg (fun z => absurd c133 (i_nle.mpr (by rw [hs4.c1]; exact z.2))), ht4]
            have hbz : ButT j ka ka_2 := hbt.trans hb4
            refine lv_aload_n hx hb dX1_goesOn_164 rfl (lv_at hl 0 rfl) ?_
            refine lv_dup hx hb dX1_goesOn_165 rfl ?_
            refine r_geti B hM 3 hW.1 rfl (by decide) rfl rfl q128 dX1_goesOn_166 ?_
            refine r_topv (v := t4 3) (hN4.2.2.2.2.2.1.1.2.2.2.1) ?_
            refine lv_iconst (v := 1) hx hb dX1_goesOn_169 (by decide) ?_
            refine lv_iadd hx hb dX1_goesOn_170 ?_
            refine r_puti B hM 3 hW.1 rfl (by decide) rfl rfl q128 dX1_goesOn_171 (fun ka_5 H locs eka_5 hM => ?_)
            refine lv_aload_n hx hb dX1_goesOn_174 rfl (lv_at hl 0 rfl) ?_
            refine r_geti B hM 5 hW.1 rfl (by decide) rfl rfl q132 dX1_goesOn_175 ?_
            refine r_topv (v := t4 5) (by rw [eka_5, up2_i _ _ _ _ (by decide)]; exact hN4.2.2.2.2.2.1.1.2.2.2.2.2.1) ?_
            refine lv_iload_n hx hb dX1_goesOn_178 rfl (lv_at hl 1 rfl) ?_
            refine lv_isub hx hb dX1_goesOn_179 ?_
            refine r_iret B hr hM dX1_goesOn_180 ?_
            have hh : hourT t = rw1 t4 3 (t4 3 + 1) := by
              unfold hourT st5
              rw [show st1 t = t1 from ht1.symm, show st2 t1 = t2 from ht2.symm, show st3 t2 = r from hr3.symm, h4]
            refine ⟨?_, ?_, hbz.trans (ButT.up eka_5 (by omega))⟩
            · rw [hh, rw1_n _ (by decide)]
            · rw [hh, eka_5]; exact RepT.num (f := 3) hN4.2.2.2.2.2.1 (by omega) hj hN4.2.2.2.2.1.1.2
          · have n133 : 0 < nC t4 := ntNle (by rw [hN4.2.2.2.2.1.1.1]) rfl (by omega) (by omega) c133
            refine lv_aload_n hx hb dX1_goesOn_136 rfl (lv_at hl 0 rfl) ?_
            refine r_getq B hM 11 hW.1 rfl (by decide) rfl rfl (hW.2.1 11 _ _ rfl).1 q144 dX1_goesOn_137 ?_
            refine lv_aload_n hx hb dX1_goesOn_140 rfl (lv_at hl 0 rfl) ?_
            refine k_i (r_V (As := []) (rest := [.ref (A.ta j 11)]) B hM hW.1 rfl rfl (ok_X1_drawn hN4 hj) cal_X1_drawn q811 rfl hl.1 (Nat.le_of_ble_eq_true rfl) dX1_goesOn_141 ⟨Nat.le_of_ble_eq_true rfl, Nat.le_of_ble_eq_true rfl⟩ ⟨Nat.le_of_ble_eq_true rfl, Nat.le_of_ble_eq_true rfl⟩) hM (fun r_6 ka_7 H locs p_8 hM => ?_)
            obtain ⟨hr2, hrp2, hb5⟩ := p_8
            have e40 : t4 0 = drawT (r 0) := by rw [ht4, rw1_s]
            rw [e40] at hr2 hrp2
            subst hr2
            obtain ⟨t5, ht5⟩ : ∃ t5, t5 = rw1 t4 0 (drawT (drawT (r 0))) := ⟨_, rfl⟩
            rw [← ht5] at hrp2
            have hs5 : Seq t4 t5 := by rw [ht5]; exact rw1_seq (by unfold Wet; omega) _
            have hN5 := hN4.step hj hb5 hs5 hrp2
            have ht5r : t5 = rw1 r 0 (drawT (drawT (r 0))) := by rw [ht5, ht4, rw1_rw1]
            have hB5 : Bok u s t5 := by rw [ht5r]; exact hBi.rw (by omega)
            have h85 : nC t5 ≤ 8 := hN5.2.2.2.2.1.1.2
            have h05 : 0 < nC t5 := by rw [hs5.nC]; exact n133
            refine lv_aload_n hx hb dX1_goesOn_144 rfl (lv_at hl 0 rfl) ?_
            refine r_geti B hM 0 hW.1 rfl (by decide) rfl rfl q122 dX1_goesOn_145 ?_
            refine r_topv (v := t5 1) (hN5.2.2.2.2.2.1.1.1) ?_
            refine lv_irem hx hb dX1_goesOn_148 (fun z => nI_ne0 h05 (by omega) (hN5.2.2.2.2.1.1.1.symm.trans z)) ?_
            have h51 : t5 1 = nI (nC t5) := hN5.2.2.2.2.1.1.1
            obtain ⟨kk, hkk, ekk⟩ := rem_z8 (drawT (drawT (r 0))) h51 h05 (by have := hN5.2.2.2.2.1.1.2; omega)
            refine r_topv (v := nI kk) ekk ?_
            obtain ⟨m, em, hm, em2⟩ := hB5.drink hOv hkk
            obtain ⟨kd1, hke1, hkt1⟩ := hN5.2.2.2.1 kk hkk
            obtain ⟨hp1, hC1⟩ := hN5.2.2.1.at (Nat.lt_of_lt_of_le hkk hN5.2.2.2.2.1.1.2) hke1
            obtain ⟨rc1, hr_1, hrN1, hr01, hr11, hr21, hr31, hg01, hg11, hg21, hg31, hrC1⟩ := gC4 hC1.2.2.2.2
            refine r_aldq B hM kk (show th (A.ta j 11) = some (44 + 10 * j, .inr (6, 8)) from (hW.2.1 11 _ _ rfl).2) rfl (by decide) rfl (by omega) (by decide) hp1 dX1_goesOn_149 ?_
            refine lv_astore_n (lv' := [(2, .ref (A.ce j kk)), (0, .ref (A.tw j)), (1, .int (t 5))]) hx hb dX1_goesOn_150 rfl hl (by decide) rfl (fun ls hl => ?_)
            refine lv_aload_n hx hb dX1_goesOn_151 rfl (lv_at hl 1 rfl) ?_
            refine lv_aload_n hx hb dX1_goesOn_152 rfl (lv_at hl 0 rfl) ?_
            refine lv_iconst (v := 5) hx hb dX1_goesOn_153 (by decide) ?_
            refine lv_aload_n hx hb dX1_goesOn_154 rfl (lv_at hl 0 rfl) ?_
            refine k_pe (v := ka_7 (200 + 8 * j + kk) 0 + ka_7 (200 + 8 * j + kk) 1 + ka_7 (200 + 8 * j + kk) 2) (r_VA (As := []) (rest := [.int 5, .ref (A.ce j kk), .ref (A.tw j)]) B hM (v_full hC1) q760 rfl hl.1 (Nat.le_of_ble_eq_true rfl) dX1_goesOn_155 ⟨Nat.le_of_ble_eq_true rfl, Nat.le_of_ble_eq_true rfl⟩ ⟨Nat.le_of_ble_eq_true rfl, Nat.le_of_ble_eq_true rfl⟩) hM (fun H locs hM => ?_)
            refine r_topv (v := fullT t5 kk) (hN5.2.2.2.2.2.1.full hkk) ?_
            refine va_mmin hx hb (B.2.2.1.trans hl.1.symm) B.2.2.2.1 (B.ts _ q764) (B.ts _ q500) (B.ts _ q83) (B.ts _ q501) (Nat.le_of_ble_eq_true rfl) (Nat.le_of_ble_eq_true rfl) (Nat.le_of_ble_eq_true rfl) (Nat.le_of_ble_eq_true rfl) dX1_goesOn_158 ?_
            refine r_topv (v := nI m) em2 ?_
            refine k_v (r_V (As := [.ref (A.ce j kk), .int (nI m)]) (rest := []) B hM hW.1 rfl rfl (ok_X1_goes hN5 hj hB5 hOv (k := kk) (m := m) hkk hm) cal_X1_goes q801 rfl hl.1 (Nat.le_of_ble_eq_true rfl) dX1_goesOn_161 ⟨Nat.le_of_ble_eq_true rfl, Nat.le_of_ble_eq_true rfl⟩ ⟨Nat.le_of_ble_eq_true rfl, Nat.le_of_ble_eq_true rfl⟩) hM (fun ka_9 H locs p_10 hM => ?_)
            obtain ⟨hrp3, -, hb6⟩ := p_10
            obtain ⟨t6, ht6⟩ : ∃ t6, t6 = drT t5 kk (nI m) := ⟨_, rfl⟩
            rw [← ht6] at hrp3
            have hs6 : Seq t5 t6 := by rw [ht6]; exact drT_seq (by have := hN5.2.2.2.2.1.1.2; omega) _
            have hN6 := hN5.step hj hb6 hs6 hrp3
            have h4 : st4 r = t6 := by
              have e14 : t4 1 = r 1 := hs4.c1
              have e44 : t4 4 = r 4 := hs4.c4
              have e15 : t5 1 = r 1 := hs5.c1.trans e14
              unfold st4
              rw [if_pos ⟨by rw [← e44]; exact i_nle.mp c126, by rw [← e14]; exact i_nle.mp c133⟩]
              rw [e15] at ekk
              rw [ekk, show (nI kk).toNatClampNeg = kk from nI_clamp (by have := hN5.2.2.2.2.1.1.2; omega)]
              have ef : fullT t5 kk = fullT r kk := by rw [ht5r]; unfold fullT; rw [rw1_n _ (by omega), rw1_n _ (by omega), rw1_n _ (by omega)]
              rw [← ef, em, ← ht5r, ← ht6]
            have hbz : ButT j ka ka_9 := ((hbt.trans hb4).trans hb5).trans hb6
            refine lv_aload_n hx hb dX1_goesOn_164 rfl (lv_at hl 1 rfl) ?_
            refine lv_dup hx hb dX1_goesOn_165 rfl ?_
            refine r_geti B hM 3 hW.1 rfl (by decide) rfl rfl q128 dX1_goesOn_166 ?_
            refine r_topv (v := t6 3) (hN6.2.2.2.2.2.1.1.2.2.2.1) ?_
            refine lv_iconst (v := 1) hx hb dX1_goesOn_169 (by decide) ?_
            refine lv_iadd hx hb dX1_goesOn_170 ?_
            refine r_puti B hM 3 hW.1 rfl (by decide) rfl rfl q128 dX1_goesOn_171 (fun ka_11 H locs eka_11 hM => ?_)
            refine lv_aload_n hx hb dX1_goesOn_174 rfl (lv_at hl 1 rfl) ?_
            refine r_geti B hM 5 hW.1 rfl (by decide) rfl rfl q132 dX1_goesOn_175 ?_
            refine r_topv (v := t6 5) (by rw [eka_11, up2_i _ _ _ _ (by decide)]; exact hN6.2.2.2.2.2.1.1.2.2.2.2.2.1) ?_
            refine lv_iload_n hx hb dX1_goesOn_178 rfl (lv_at hl 2 rfl) ?_
            refine lv_isub hx hb dX1_goesOn_179 ?_
            refine r_iret B hr hM dX1_goesOn_180 ?_
            have hh : hourT t = rw1 t6 3 (t6 3 + 1) := by
              unfold hourT st5
              rw [show st1 t = t1 from ht1.symm, show st2 t1 = t2 from ht2.symm, show st3 t2 = r from hr3.symm, h4]
            refine ⟨?_, ?_, hbz.trans (ButT.up eka_11 (by omega))⟩
            · rw [hh, rw1_n _ (by decide)]
            · rw [hh, eka_11]; exact RepT.num (f := 3) hN6.2.2.2.2.2.1 (by omega) hj hN6.2.2.2.2.1.1.2
      · have n68 : i < nC r := ntNle (by rw [hNb.2.2.2.2.1.1.1]) rfl (by omega) (by omega) c68
        have hic : i < nC r := n68
        obtain ⟨m, em, hm, em2⟩ := hBi.spill hOv hic
        obtain ⟨kd1, hke1, hkt1⟩ := hNb.2.2.2.1 i hic
        obtain ⟨hp1, hC1⟩ := hNb.2.2.1.at (Nat.lt_of_lt_of_le hic hNb.2.2.2.2.1.1.2) hke1
        obtain ⟨rc1, hr_1, hrN1, hr01, hr11, hr21, hr31, hg01, hg11, hg21, hg31, hrC1⟩ := gC4 hC1.2.2.2.2
        refine lv_aload_n hx hb dX1_goesOn_71 rfl (lv_at hl 0 rfl) ?_
        refine r_getq B hM 11 hW.1 rfl (by decide) rfl rfl (hW.2.1 11 _ _ rfl).1 q144 dX1_goesOn_72 ?_
        refine lv_iload_n hx hb dX1_goesOn_75 rfl (lv_at hl 2 rfl) ?_
        refine r_aldq B hM i (show th (A.ta j 11) = some (44 + 10 * j, .inr (6, 8)) from (hW.2.1 11 _ _ rfl).2) rfl (by decide) rfl (by omega) (by decide) hp1 dX1_goesOn_76 ?_
        refine lv_astore_n (lv' := [(3, .ref (A.ce j i)), (0, .ref (A.tw j)), (1, .int (t 5)), (2, .int (nI i))]) hx hb dX1_goesOn_77 rfl hl (by decide) rfl (fun ls hl => ?_)
        refine lv_aload_n hx hb dX1_goesOn_78 rfl (lv_at hl 0 rfl) ?_
        refine k_i (r_VA (As := []) (rest := []) B hM (v_high hNb hnow hj hC1 hic hkt1) q810 rfl hl.1 (Nat.le_of_ble_eq_true rfl) dX1_goesOn_79 ⟨Nat.le_of_ble_eq_true rfl, Nat.le_of_ble_eq_true rfl⟩ ⟨Nat.le_of_ble_eq_true rfl, Nat.le_of_ble_eq_true rfl⟩) hM (fun r_12 ka_13 H locs p_14 hM => ?_)
        obtain ⟨hr1, hq⟩ := p_14
        subst hr1
        have hNh := hNb.but hq hj (by decide)
        refine lv_aload_n hx hb dX1_goesOn_82 rfl (lv_at hl 0 rfl) ?_
        refine r_geti B hM 1 hC1.1 hr_1 (by rw [hrN1]; decide) hr11 hg11 q291 dX1_goesOn_83 ?_
        refine r_topv (v := r (7 + 6 * i + 2)) ((hNh.2.2.2.2.2.1.2.2 i hic).2.1) ?_
        refine lv_icmp_le (tgt := 109) hx hb dX1_goesOn_86 (by decide) (fun c86 => ?_) (fun c86 => ?_)
        · refine lv_iinc (v := nI (i + 1)) (lv' := [(2, .int (nI (i + 1))), (3, .ref (A.ce j i)), (0, .ref (A.tw j)), (1, .int (t 5))]) hx hb dX1_goesOn_109 hl (k := 3) rfl (nI_1 _) (by decide) rfl (fun ls hl => ?_)
          refine lv_goto (tgt := 63) hx hb dX1_goesOn_112 (by decide) ?_
          exact ih_loop3 (i + 1) r ka_13 (by omega) (by omega) (by show _ = st3f i (itn st3f i t2); rw [← hre, st3f, if_neg (i_nlt.mpr c86)]) hNh (hbt.trans (But.bt hq)) _ _ _ (lv_sub hl [2, 3, 0] rfl) hM
        · refine lv_aload_n hx hb dX1_goesOn_89 rfl (lv_at hl 1 rfl) ?_
          refine lv_aload_n hx hb dX1_goesOn_90 rfl (lv_at hl 0 rfl) ?_
          refine lv_aload_n hx hb dX1_goesOn_91 rfl (lv_at hl 0 rfl) ?_
          refine k_pe (v := ka_13 (200 + 8 * j + i) 0 + ka_13 (200 + 8 * j + i) 1 + ka_13 (200 + 8 * j + i) 2) (r_VA (As := []) (rest := [.ref (A.ce j i), .ref (A.tw j)]) B hM (v_full hC1) q760 rfl hl.1 (Nat.le_of_ble_eq_true rfl) dX1_goesOn_92 ⟨Nat.le_of_ble_eq_true rfl, Nat.le_of_ble_eq_true rfl⟩ ⟨Nat.le_of_ble_eq_true rfl, Nat.le_of_ble_eq_true rfl⟩) hM (fun H locs hM => ?_)
          refine r_topv (v := fullT r i) (hNh.2.2.2.2.2.1.full hic) ?_
          refine lv_aload_n hx hb dX1_goesOn_95 rfl (lv_at hl 0 rfl) ?_
          refine k_pe (v := ka_13 (200 + 8 * j + i) 0 + ka_13 (200 + 8 * j + i) 1 + ka_13 (200 + 8 * j + i) 2) (r_VA (As := []) (rest := [.int (fullT r i), .ref (A.ce j i), .ref (A.tw j)]) B hM (v_full hC1) q760 rfl hl.1 (Nat.le_of_ble_eq_true rfl) dX1_goesOn_96 ⟨Nat.le_of_ble_eq_true rfl, Nat.le_of_ble_eq_true rfl⟩ ⟨Nat.le_of_ble_eq_true rfl, Nat.le_of_ble_eq_true rfl⟩) hM (fun H locs hM => ?_)
          refine r_topv (v := fullT r i) (hNh.2.2.2.2.2.1.full hic) ?_
          refine lv_iconst (v := 4) hx hb dX1_goesOn_99 (by decide) ?_
          refine lv_idiv hx hb dX1_goesOn_100 (by decide) ?_
          refine lv_iconst (v := 1) hx hb dX1_goesOn_101 (by decide) ?_
          refine lv_iadd hx hb dX1_goesOn_102 ?_
          refine va_mmin hx hb (B.2.2.1.trans hl.1.symm) B.2.2.2.1 (B.ts _ q764) (B.ts _ q500) (B.ts _ q83) (B.ts _ q501) (Nat.le_of_ble_eq_true rfl) (Nat.le_of_ble_eq_true rfl) (Nat.le_of_ble_eq_true rfl) (Nat.le_of_ble_eq_true rfl) dX1_goesOn_103 ?_
          refine r_topv (v := nI m) em2 ?_
          refine k_v (r_V (As := [.ref (A.ce j i), .int (nI m)]) (rest := []) B hM hW.1 rfl rfl (ok_X1_spills hNh hj hBi hOv (k := i) (m := m) hic hm) cal_X1_spills q806 rfl hl.1 (Nat.le_of_ble_eq_true rfl) dX1_goesOn_106 ⟨Nat.le_of_ble_eq_true rfl, Nat.le_of_ble_eq_true rfl⟩ ⟨Nat.le_of_ble_eq_true rfl, Nat.le_of_ble_eq_true rfl⟩) hM (fun ka_15 H locs p_16 hM => ?_)
          obtain ⟨hrp, hb2⟩ := p_16
          have hN2 := hNh.step hj hb2 (spT_seq (by omega) _) hrp
          refine lv_iinc (v := nI (i + 1)) (lv' := [(2, .int (nI (i + 1))), (3, .ref (A.ce j i)), (0, .ref (A.tw j)), (1, .int (t 5))]) hx hb dX1_goesOn_109 hl (k := 3) rfl (nI_1 _) (by decide) rfl (fun ls hl => ?_)
          refine lv_goto (tgt := 63) hx hb dX1_goesOn_112 (by decide) ?_
          exact ih_loop3 (i + 1) (spT r i (nI m)) ka_15 (by omega) (by omega) (by show _ = st3f i (itn st3f i t2); rw [← hre, st3f, if_pos (i_nle.mp c86), em]) hN2 (hbt.trans ((But.bt hq).trans hb2)) _ _ _ (lv_sub hl [2, 3, 0] rfl) hM
  have loop2 : ∀ (fu_loop2 : Nat) (i : Nat) (r : Row) (kb : Ka), nC t1 - i < fu_loop2 → (i ≤ nC t1) → (r = itn (fun c t => spT t c (losesT t c)) i t1) → (Tn th rh kb A j K r) → (ButT j ka kb) → ∀ (ls : Array Slot) (H : Heap) (locs : List Loc), lv_has ls 4 [(0, .ref (A.tw j)), (1, .int (t 5)), (2, .int (nI i))] → Md G th rh ph kb H locs → W p_ l e_ (RM 110 0 0) s_ m_ ([.ref (A.tw j)].toArray) below_ meth_ c_ H locs 0 0 (MQ below_ (Qi G th rh ph (fun r ka' => r = hourT t 5 - t 5 ∧ RepT ka' j (hourT t) ∧ ButT j ka ka')) ([.ref (A.tw j)].toArray) s_ 0 0 (frG G)) (F0 m_ 28 ls []) := by
    intro fu_loop2
    induction fu_loop2 with
    | zero => intro i r kb hfu; exact absurd hfu (Nat.not_lt_zero _)
    | succ fu_loop2 ih_loop2 =>
      intro i r kb hfu_loop2 hi hre hNb hbt ls H locs hl hM
      obtain ⟨hBi, hsi⟩ := hB1.step2 hOv hR1 hi
      rw [← hre] at hBi hsi
      have hRb := hNb.2.2.2.2.1
      have hnc : nC r = nC t1 := hsi.nC
      have h8b := hRb.1.2
      refine lv_iload_n hx hb dX1_goesOn_28 rfl (lv_at hl 2 rfl) ?_
      refine lv_aload_n hx hb dX1_goesOn_29 rfl (lv_at hl 0 rfl) ?_
      refine r_geti B hM 0 hW.1 rfl (by decide) rfl rfl q122 dX1_goesOn_30 ?_
      refine r_topv (v := r 1) (hNb.2.2.2.2.2.1.1.1) ?_
      refine lv_icmp_ge (tgt := 61) hx hb dX1_goesOn_33 (by decide) (fun c33 => ?_) (fun c33 => ?_)
      · have n33 : nC r ≤ i := ntLe (by rw [hNb.2.2.2.2.1.1.1]) rfl (by omega) (by omega) c33
        refine lv_iconst (v := 0) hx hb dX1_goesOn_61 (by decide) ?_
        refine lv_istore_n (lv' := [(2, .int 0), (0, .ref (A.tw j)), (1, .int (t 5))]) hx hb dX1_goesOn_62 rfl hl (by decide) rfl (fun ls hl => ?_)
        exact loop3 (nC t2 + 1) 0 t2 kb (by omega) (Nat.zero_le _) rfl (by rw [show t2 = r by rw [hre, show i = nC t1 by omega, ht2]; rfl]; exact hNb) hbt _ _ _ (lv_sub hl [1, 2, 0] rfl) hM
      · have n33 : i < nC r := ntNle (by rw [hNb.2.2.2.2.1.1.1]) rfl (by omega) (by omega) c33
        have hic : i < nC r := n33
        obtain ⟨m, em, hm⟩ := hBi.loses hOv hic
        obtain ⟨kd1, hke1, hkt1⟩ := hNb.2.2.2.1 i hic
        obtain ⟨hp1, hC1⟩ := hNb.2.2.1.at (Nat.lt_of_lt_of_le hic hNb.2.2.2.2.1.1.2) hke1
        obtain ⟨rc1, hr_1, hrN1, hr01, hr11, hr21, hr31, hg01, hg11, hg21, hg31, hrC1⟩ := gC4 hC1.2.2.2.2
        refine lv_aload_n hx hb dX1_goesOn_36 rfl (lv_at hl 0 rfl) ?_
        refine lv_aload_n hx hb dX1_goesOn_37 rfl (lv_at hl 0 rfl) ?_
        refine r_getq B hM 11 hW.1 rfl (by decide) rfl rfl (hW.2.1 11 _ _ rfl).1 q144 dX1_goesOn_38 ?_
        refine lv_iload_n hx hb dX1_goesOn_41 rfl (lv_at hl 2 rfl) ?_
        refine r_aldq B hM i (show th (A.ta j 11) = some (44 + 10 * j, .inr (6, 8)) from (hW.2.1 11 _ _ rfl).2) rfl (by decide) rfl (by omega) (by decide) hp1 dX1_goesOn_42 ?_
        refine lv_aload_n hx hb dX1_goesOn_43 rfl (lv_at hl 0 rfl) ?_
        refine r_getq B hM 11 hW.1 rfl (by decide) rfl rfl (hW.2.1 11 _ _ rfl).1 q144 dX1_goesOn_44 ?_
        refine lv_iload_n hx hb dX1_goesOn_47 rfl (lv_at hl 2 rfl) ?_
        refine r_aldq B hM i (show th (A.ta j 11) = some (44 + 10 * j, .inr (6, 8)) from (hW.2.1 11 _ _ rfl).2) rfl (by decide) rfl (by omega) (by decide) hp1 dX1_goesOn_48 ?_
        refine k_pe (v := lkT (nI kd1) (kb (200 + 8 * j + i) 0 + kb (200 + 8 * j + i) 1 + kb (200 + 8 * j + i) 2)) (r_VA (As := []) (rest := [.ref (A.ce j i), .ref (A.tw j)]) B hM (v_loses hC1) q805 rfl hl.1 (Nat.le_of_ble_eq_true rfl) dX1_goesOn_49 ⟨Nat.le_of_ble_eq_true rfl, Nat.le_of_ble_eq_true rfl⟩ ⟨Nat.le_of_ble_eq_true rfl, Nat.le_of_ble_eq_true rfl⟩) hM (fun H locs hM => ?_)
        refine r_topv (v := nI m) (by rw [← em, lkT_e, hkt1, hNb.2.2.2.2.2.1.full hic]) ?_
        refine k_v (r_V (As := [.ref (A.ce j i), .int (nI m)]) (rest := []) B hM hW.1 rfl rfl (ok_X1_spills hNb hj hBi hOv (k := i) (m := m) hic hm) cal_X1_spills q806 rfl hl.1 (Nat.le_of_ble_eq_true rfl) dX1_goesOn_52 ⟨Nat.le_of_ble_eq_true rfl, Nat.le_of_ble_eq_true rfl⟩ ⟨Nat.le_of_ble_eq_true rfl, Nat.le_of_ble_eq_true rfl⟩) hM (fun ka_17 H locs p_18 hM => ?_)
        obtain ⟨hrp, hb2⟩ := p_18
        have hN2 := hNb.step hj hb2 (spT_seq (by omega) _) hrp
        refine lv_iinc (v := nI (i + 1)) (lv' := [(2, .int (nI (i + 1))), (0, .ref (A.tw j)), (1, .int (t 5))]) hx hb dX1_goesOn_55 hl (k := 2) rfl (nI_1 _) (by decide) rfl (fun ls hl => ?_)
        refine lv_goto (tgt := 28) hx hb dX1_goesOn_58 (by decide) ?_
        exact ih_loop2 (i + 1) (spT r i (nI m)) ka_17 (by omega) (by omega) (by rw [← em, hre]; rfl) hN2 (hbt.trans hb2) _ _ _ (lv_sub hl [1, 2, 0] rfl) hM
  have loop1 : ∀ (fu_loop1 : Nat) (i : Nat) (r : Row) (kb : Ka), nP t - i < fu_loop1 → (i ≤ nP t) → (r = itn (fun p t => flT t p) i t) → (Tn th rh kb A j K r) → (ButT j ka kb) → ∀ (ls : Array Slot) (H : Heap) (locs : List Loc), lv_has ls 4 [(0, .ref (A.tw j)), (1, .int (t 5)), (2, .int (nI i))] → Md G th rh ph kb H locs → W p_ l e_ (RM 110 0 0) s_ m_ ([.ref (A.tw j)].toArray) below_ meth_ c_ H locs 0 0 (MQ below_ (Qi G th rh ph (fun r ka' => r = hourT t 5 - t 5 ∧ RepT ka' j (hourT t) ∧ ButT j ka ka')) ([.ref (A.tw j)].toArray) s_ 0 0 (frG G)) (F0 m_ 7 ls []) := by
    intro fu_loop1
    induction fu_loop1 with
    | zero => intro i r kb hfu; exact absurd hfu (Nat.not_lt_zero _)
    | succ fu_loop1 ih_loop1 =>
      intro i r kb hfu_loop1 hi hre hNb hbt ls H locs hl hM
      obtain ⟨hBi, hsi⟩ := hB.step1 hOv hR hi
      rw [← hre] at hBi hsi
      have hRb := hNb.2.2.2.2.1
      have hnp : nP r = nP t := hsi.nP
      have h13b := hRb.2.1.2
      refine lv_iload_n hx hb dX1_goesOn_7 rfl (lv_at hl 2 rfl) ?_
      refine lv_aload_n hx hb dX1_goesOn_8 rfl (lv_at hl 0 rfl) ?_
      refine r_geti B hM 1 hW.1 rfl (by decide) rfl rfl q124 dX1_goesOn_9 ?_
      refine r_topv (v := r 2) (hNb.2.2.2.2.2.1.1.2.1) ?_
      refine lv_icmp_ge (tgt := 26) hx hb dX1_goesOn_12 (by decide) (fun c12 => ?_) (fun c12 => ?_)
      · have n12 : nP r ≤ i := ntLe (by rw [hNb.2.2.2.2.1.2.1.1]) rfl (by omega) (by omega) c12
        refine lv_iconst (v := 0) hx hb dX1_goesOn_26 (by decide) ?_
        refine lv_istore_n (lv' := [(2, .int 0), (0, .ref (A.tw j)), (1, .int (t 5))]) hx hb dX1_goesOn_27 rfl hl (by decide) rfl (fun ls hl => ?_)
        exact loop2 (nC t1 + 1) 0 t1 kb (by omega) (Nat.zero_le _) rfl (by rw [show t1 = r by rw [hre, show i = nP t by omega, ht1]; rfl]; exact hNb) hbt _ _ _ (lv_sub hl [1, 2, 0] rfl) hM
      · have n12 : i < nP r := ntNle (by rw [hNb.2.2.2.2.1.2.1.1]) rfl (by omega) (by omega) c12
        have hip : i < nP r := n12
        refine lv_aload_n hx hb dX1_goesOn_15 rfl (lv_at hl 0 rfl) ?_
        refine lv_iload_n hx hb dX1_goesOn_16 rfl (lv_at hl 2 rfl) ?_
        refine k_v (r_V (As := [.int (nI i)]) (rest := []) B hM hW.1 rfl rfl (ok_X1_runsThrough hNb hnow hj hBi hOv (p := i) hip) cal_X1_runsThrough q797 rfl hl.1 (Nat.le_of_ble_eq_true rfl) dX1_goesOn_17 ⟨Nat.le_of_ble_eq_true rfl, Nat.le_of_ble_eq_true rfl⟩ ⟨Nat.le_of_ble_eq_true rfl, Nat.le_of_ble_eq_true rfl⟩) hM (fun ka_19 H locs p_20 hM => ?_)
        obtain ⟨hrp, hb2⟩ := p_20
        have hN2 := hNb.step hj hb2 (flT_seq hRb hip) hrp
        refine lv_iinc (v := nI (i + 1)) (lv' := [(2, .int (nI (i + 1))), (0, .ref (A.tw j)), (1, .int (t 5))]) hx hb dX1_goesOn_20 hl (k := 2) rfl (nI_1 _) (by decide) rfl (fun ls hl => ?_)
        refine lv_goto (tgt := 7) hx hb dX1_goesOn_23 (by decide) ?_
        exact ih_loop1 (i + 1) (flT r i) ka_19 (by omega) (by omega) (by rw [hre]; rfl) hN2 (hbt.trans hb2) _ _ _ (lv_sub hl [1, 2, 0] rfl) hM
  refine lv_aload_n hx hb dX1_goesOn_0 rfl (lv_at hl 0 rfl) ?_
  refine r_geti B hM 5 hW.1 rfl (by decide) rfl rfl q132 dX1_goesOn_1 ?_
  refine r_topv (v := t 5) (hN.2.2.2.2.2.1.1.2.2.2.2.2.1) ?_
  refine lv_topi (fun v_21 ev_21 => ?_)
  refine lv_istore_n (lv' := [(1, .int v_21), (0, .ref (A.tw j))]) hx hb dX1_goesOn_4 rfl hl (by decide) rfl (fun ls hl => ?_)
  subst ev_21
  refine lv_iconst (v := 0) hx hb dX1_goesOn_5 (by decide) ?_
  refine lv_istore_n (lv' := [(2, .int 0), (1, .int (t 5)), (0, .ref (A.tw j))]) hx hb dX1_goesOn_6 rfl hl (by decide) rfl (fun ls hl => ?_)
  exact loop1 (nP t + 1) 0 t ka (by omega) (Nat.zero_le _) rfl hN ButT.refl _ _ _ (lv_sub hl [2, 1, 0] rfl) hM
end
