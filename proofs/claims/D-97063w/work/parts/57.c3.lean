/-! the component: how high a cellar stands -/
set_option maxRecDepth 100000
section
variable {l : Launch} {G : GG} {th : Th} {rh : Rh} {ph : Ph} {ka : Ka} {A : XA} {j : Nat} {K : Nat → Option Nat} {t : Row} {c w P Q kd : Nat}
set_option maxHeartbeats 4000000 in
theorem ok_X0_isIn (v a b : Int64) : Met l yX0_isIn (ws_ yX0_isIn cX0_isIn 6 (some .boolean)) (RM 1 0 0) (Pc_ G [.long v, .long a, .long b] th rh ph ka) (Qp G th rh ph ka (fun r => (r = 1 ∧ (a ≤ v ∧ v ≤ b)) ∨ (r = 0 ∧ ¬ (a ≤ v ∧ v ≤ b)))) 0 0 (frG G) := by
  refine m_of (by decide) (Nat.le_of_ble_eq_true rfl) ?_
  intro p_ e_ s_ m_ below_ meth_ c_ B hr hnm ls hl hM
  have hx := B.1
  have hb := B.2.1
  have hM := hM
  refine lv_lload_n hx hb dX0_isIn_0 rfl (lv_at hl 0 rfl) ?_
  refine lv_lload_n hx hb dX0_isIn_1 rfl (lv_at hl 1 rfl) ?_
  refine W.lcmp hx hb dX0_isIn_2 ?_
  refine lv_if_lt (tgt := 17) hx hb dX0_isIn_3 (by decide) (fun c3 => ?_) (fun c3 => ?_)
  · refine lv_iconst (v := 0) hx hb dX0_isIn_17 (by decide) ?_
    refine r_zretp B hr hM dX0_isIn_18 (Or.inl rfl) ?_
    exact Or.inr ⟨rfl, fun z => absurd ((lg_cmp_ge _ _).mpr z.1) (i_nle.mpr c3)⟩
  · refine lv_lload_n hx hb dX0_isIn_6 rfl (lv_at hl 0 rfl) ?_
    refine lv_lload hx hb dX0_isIn_7 (lv_at hl 2 rfl) ?_
    refine W.lcmp hx hb dX0_isIn_9 ?_
    refine lv_if_gt (tgt := 17) hx hb dX0_isIn_10 (by decide) (fun c10 => ?_) (fun c10 => ?_)
    · refine lv_iconst (v := 0) hx hb dX0_isIn_17 (by decide) ?_
      refine r_zretp B hr hM dX0_isIn_18 (Or.inl rfl) ?_
      exact Or.inr ⟨rfl, fun z => absurd ((lg_cmp_le _ _).mpr z.2) (i_nle.mpr c10)⟩
    · refine lv_iconst (v := 1) hx hb dX0_isIn_13 (by decide) ?_
      refine lv_goto (tgt := 18) hx hb dX0_isIn_14 (by decide) ?_
      refine r_zretp B hr hM dX0_isIn_18 (Or.inr rfl) ?_
      exact Or.inl ⟨rfl, ⟨(lg_cmp_ge _ _).mp (i_nlt.mp c3), (lg_cmp_le _ _).mp (i_nlt.mp c10)⟩⟩
theorem l64_le (x y : Int32) : x.toInt64 ≤ y.toInt64 ↔ x ≤ y := by rw [Int64.le_iff_toInt_le, Int32.toInt_toInt64, Int32.toInt_toInt64, i32_le]
theorem ok_isIn (v : Int32) {a b : Int64} (x y : Int32) (ha : a = x.toInt64) (hb : b = y.toInt64) : Met l yX0_isIn (ws_ yX0_isIn cX0_isIn 6 (some .boolean)) (RM 1 0 0) (Pc_ G [.long v.toInt64, .long a, .long b] th rh ph ka) (Qp G th rh ph ka (fun r => (r = 1 ∧ (x ≤ v ∧ v ≤ y)) ∨ (r = 0 ∧ ¬ (x ≤ v ∧ v ≤ y)))) 0 0 (frG G) :=
  (ok_X0_isIn v.toInt64 a b).qp (fun r h => by subst ha; subst hb; rw [l64_le, l64_le] at h; exact h)
set_option maxHeartbeats 4000000 in
theorem ok_X0_orNone (v : Int32) : Met l yX0_orNone (ws_ yX0_orNone cX0_orNone 1 (some .int)) (RM 1 0 0) (Pc_ G [.int v] th rh ph ka) (Qp G th rh ph ka (fun r => r = none0 v)) 0 0 (frG G) := by
  refine m_of (by decide) (Nat.le_of_ble_eq_true rfl) ?_
  intro p_ e_ s_ m_ below_ meth_ c_ B hr hnm ls hl hM
  have hx := B.1
  have hb := B.2.1
  have hM := hM
  refine lv_iload_n hx hb dX0_orNone_0 rfl (lv_at hl 0 rfl) ?_
  refine lv_if_ge (tgt := 9) hx hb dX0_orNone_1 (by decide) (fun c1 => ?_) (fun c1 => ?_)
  · refine lv_iload_n hx hb dX0_orNone_9 rfl (lv_at hl 0 rfl) ?_
    refine r_iretp B hr hM dX0_orNone_10 ?_
    unfold none0
    rw [if_neg (i_nlt.mpr c1)]
  · refine lv_ldc hx hb B.2.2.2.1 (B.ts _ q863) dX0_orNone_4 ?_
    refine lv_goto (tgt := 10) hx hb dX0_orNone_6 (by decide) ?_
    refine r_iretp B hr hM dX0_orNone_10 ?_
    unfold none0
    rw [if_pos (i_nle.mp c1)]
theorem mm_wi {v a b : Int32} (h : a ≤ b) : (if a < (if v < b then v else b) then (if v < b then v else b) else a) = wi v a b := by
  unfold wi
  rw [i32_le] at h
  by_cases c1 : v < b
  · rw [if_pos c1]
    rw [i32_lt] at c1
    by_cases c2 : a < v
    · rw [if_pos c2, if_neg (by rw [i32_lt] at c2 ⊢; omega), if_neg (by rw [i32_lt]; omega)]
    · rw [if_neg c2]
      by_cases c3 : v < a
      · rw [if_pos c3]
      · rw [if_neg c3, if_neg (by rw [i32_lt]; omega)]
        exact Int32.toInt_inj.mp (by rw [i32_lt] at c2 c3; omega)
  · rw [if_neg c1]
    rw [i32_lt] at c1
    by_cases c2 : a < b
    · rw [if_pos c2, if_neg (by rw [i32_lt] at c2 ⊢; omega)]
      by_cases c3 : b < v
      · rw [if_pos c3]
      · rw [if_neg c3]
        exact Int32.toInt_inj.mp (by rw [i32_lt] at c3; omega)
    · rw [if_neg c2]
      have : a = b := Int32.toInt_inj.mp (by rw [i32_lt] at c2; omega)
      subst this
      by_cases c3 : v < a
      · rw [if_pos c3]
      · rw [if_neg c3]
        by_cases c4 : a < v
        · rw [if_pos c4]
        · rw [if_neg c4]
          exact Int32.toInt_inj.mp (by rw [i32_lt] at c3 c4; omega)
set_option maxHeartbeats 4000000 in
theorem ok_X0_heldIn (v a b : Int32) (h : a ≤ b) : Met l yX0_heldIn (ws_ yX0_heldIn cX0_heldIn 3 (some .int)) (RM 1 0 0) (Pc_ G [.int v, .int a, .int b] th rh ph ka) (Qp G th rh ph ka (fun r => r = wi v a b)) 0 0 (frG G) := by
  refine m_of (by decide) (Nat.le_of_ble_eq_true rfl) ?_
  intro p_ e_ s_ m_ below_ meth_ c_ B hr hnm ls hl hM
  have hx := B.1
  have hb := B.2.1
  have hM := hM
  refine lv_iload_n hx hb dX0_heldIn_0 rfl (lv_at hl 1 rfl) ?_
  refine lv_iload_n hx hb dX0_heldIn_1 rfl (lv_at hl 2 rfl) ?_
  refine lv_iload_n hx hb dX0_heldIn_2 rfl (lv_at hl 0 rfl) ?_
  refine va_mmin hx hb (B.2.2.1.trans hl.1.symm) B.2.2.2.1 (B.ts _ q499) (B.ts _ q500) (B.ts _ q83) (B.ts _ q501) (Nat.le_of_ble_eq_true rfl) (Nat.le_of_ble_eq_true rfl) (Nat.le_of_ble_eq_true rfl) (Nat.le_of_ble_eq_true rfl) dX0_heldIn_3 ?_
  refine va_mmax hx hb (B.2.2.1.trans hl.1.symm) B.2.2.2.1 (B.ts _ q502) (B.ts _ q449) (B.ts _ q83) (B.ts _ q450) (Nat.le_of_ble_eq_true rfl) (Nat.le_of_ble_eq_true rfl) (Nat.le_of_ble_eq_true rfl) (Nat.le_of_ble_eq_true rfl) dX0_heldIn_6 ?_
  refine r_iretp B hr hM dX0_heldIn_9 ?_
  exact mm_wi h
set_option maxHeartbeats 4000000 in
theorem ok_X0_asBit {v : Int32} (h : v = 0 ∨ v = 1) : Met l yX0_asBit (ws_ yX0_asBit cX0_asBit 1 (some .int)) (RM 1 0 0) (Pc_ G [.int v] th rh ph ka) (Qp G th rh ph ka (fun r => r = v)) 0 0 (frG G) := by
  refine m_of (by decide) (Nat.le_of_ble_eq_true rfl) ?_
  intro p_ e_ s_ m_ below_ meth_ c_ B hr hnm ls hl hM
  have hx := B.1
  have hb := B.2.1
  have hM := hM
  refine lv_iload_n hx hb dX0_asBit_0 rfl (lv_at hl 0 rfl) ?_
  refine lv_if_eq (tgt := 8) hx hb dX0_asBit_1 (by decide) (fun c1 => ?_) (fun c1 => ?_)
  · refine lv_iconst (v := 0) hx hb dX0_asBit_8 (by decide) ?_
    refine r_iretp B hr hM dX0_asBit_9 ?_
    exact c1.symm
  · refine lv_iconst (v := 1) hx hb dX0_asBit_4 (by decide) ?_
    refine lv_goto (tgt := 9) hx hb dX0_asBit_5 (by decide) ?_
    refine r_iretp B hr hM dX0_asBit_9 ?_
    exact (h.resolve_left c1).symm
set_option maxHeartbeats 4000000 in
theorem ok_X0_counts (hN : Tn th rh ka A j K t) (hnow : rh 0 1 = some (A.tw j)) (of : Int32) : Met l yX0_counts (ws_ yX0_counts cX0_counts 3 (some .int)) (RM 1 0 0) (Pc_ G [.ref A.x, .int of] th rh ph ka) (Qp G th rh ph ka (fun r => r = opI (cntT t of (nX t)))) 0 0 (frG G) := by
  refine m_of (by decide) (Nat.le_of_ble_eq_true rfl) ?_
  intro p_ e_ s_ m_ below_ meth_ c_ B hr hnm ls hl hM
  have hx := B.1
  have hb := B.2.1
  have hM := hM
  obtain ⟨hO, hW, hK, hkd, hR, hT, hX⟩ := hN
  have h14 := hR.2.2.1.2
  have loop : ∀ (fu_loop : Nat) (k : Nat) (x : Int32), k < fu_loop → (k ≤ nX t) → (x = nI k - 1) → (cntT t of (nX t) = cntT t of k) → ∀ (ls : Array Slot) (H : Heap) (locs : List Loc), lv_has ls 3 [(0, .ref A.x), (1, .int of), (2, .int x)] → Md G th rh ph ka H locs → W p_ l e_ (RM 1 0 0) s_ m_ ([.ref A.x, .int of].toArray) below_ meth_ c_ H locs 0 0 (MQ below_ (Qp G th rh ph ka (fun r => r = opI (cntT t of (nX t)))) ([.ref A.x, .int of].toArray) s_ 0 0 (frG G)) (F0 m_ 10 ls []) := by
    intro fu_loop
    induction fu_loop with
    | zero => intro k x hfu; exact absurd hfu (Nat.not_lt_zero _)
    | succ fu_loop ih_loop =>
      intro k x hfu_loop hk hxk hc ls H locs hl hM
      refine lv_iload_n hx hb dX0_counts_10 rfl (lv_at hl 2 rfl) ?_
      refine lv_if_lt (tgt := 36) hx hb dX0_counts_11 (by decide) (fun c11 => ?_) (fun c11 => ?_)
      · refine lv_iload_n hx hb dX0_counts_36 rfl (lv_at hl 2 rfl) ?_
        refine r_iretp B hr hM dX0_counts_37 ?_
        rw [hc, pred_zero hxk (by have := hR.2.2.1.2; omega) c11]
        rw [hxk, pred_zero hxk (by have := hR.2.2.1.2; omega) c11]
        rfl
      · obtain ⟨z, rfl, hx1⟩ := pred_pos hxk (i_nlt.mpr (i_nlt.mp c11))
        obtain ⟨aX, keyX, hraX, hk3X, hTxX, htxX⟩ := hX z (by omega)
        obtain ⟨eX, heX, hTrX⟩ := hTxX.2.2.2
        have hkz : t (107 + 2 * z) / 1000 = nI keyX := by
          obtain ⟨k2, q1, q2, q3, q4⟩ := hR.2.2.2.2 z (by omega)
          exact (txt_num hk3X q2 htxX).1
        refine lv_aload_n hx hb dX0_counts_14 rfl (lv_at hl 0 rfl) ?_
        refine r_getq B hM 1 hO.1 rfl (by decide) rfl rfl hnow q194 dX0_counts_15 ?_
        refine r_getq B hM 12 hW.1 rfl (by decide) rfl rfl (hW.2.1 12 _ _ rfl).1 q147 dX0_counts_18 ?_
        refine lv_iload_n hx hb dX0_counts_21 rfl (lv_at hl 2 rfl) ?_
        refine r_aldq B hM z (show th (A.ta j 12) = some (45 + 10 * j, .inr (7, 14)) from (hW.2.1 12 _ _ rfl).2) rfl (by decide) (by rw [hx1]) (by omega) (by decide) hraX dX0_counts_22 ?_
        refine r_geti B hM 0 hTxX.1 rfl (by decide) rfl rfl q1138 dX0_counts_23 ?_
        refine r_topv (v := nI keyX) hTxX.2.1 ?_
        refine lv_iload_n hx hb dX0_counts_26 rfl (lv_at hl 1 rfl) ?_
        refine lv_icmp_eq (tgt := 36) hx hb dX0_counts_27 (by decide) (fun c27 => ?_) (fun c27 => ?_)
        · refine lv_iload_n hx hb dX0_counts_36 rfl (lv_at hl 2 rfl) ?_
          refine r_iretp B hr hM dX0_counts_37 ?_
          rw [hc, cntT, if_pos (by rw [hkz]; exact c27)]
          exact hx1
        · obtain ⟨v_1, ev_1⟩ : ∃ z : Int32, z = x + Int32.ofInt (-1) := ⟨_, rfl⟩
          refine lv_iinc (v := v_1) (lv' := [(2, .int v_1), (0, .ref A.x), (1, .int of)]) hx hb dX0_counts_30 hl (k := 2) rfl ev_1.symm (by decide) rfl (fun ls hl => ?_)
          refine lv_goto (tgt := 10) hx hb dX0_counts_33 (by decide) ?_
          exact ih_loop z v_1 (by omega) (by omega) (by rw [ev_1, hx1]; exact m1_sub _) (by rw [hc, cntT, if_neg (by rw [hkz]; exact c27)]) _ _ _ (lv_sub hl [1, 2, 0] rfl) hM
  refine lv_aload_n hx hb dX0_counts_0 rfl (lv_at hl 0 rfl) ?_
  refine r_getq B hM 1 hO.1 rfl (by decide) rfl rfl hnow q194 dX0_counts_1 ?_
  refine r_geti B hM 2 hW.1 rfl (by decide) rfl rfl q127 dX0_counts_4 ?_
  refine r_topv (v := t 6) hT.1.2.2.1 ?_
  refine lv_iconst (v := 1) hx hb dX0_counts_7 (by decide) ?_
  refine lv_isub hx hb dX0_counts_8 ?_
  refine lv_topi (fun v_2 ev_2 => ?_)
  refine lv_istore_n (lv' := [(2, .int v_2), (0, .ref A.x), (1, .int of)]) hx hb dX0_counts_9 rfl hl (by decide) rfl (fun ls hl => ?_)
  exact loop (nX t + 1) (nX t) v_2 (by omega) (Nat.le_refl _) (by rw [ev_2, hR.2.2.1.1]) rfl _ _ _ (lv_sub hl [1, 2, 0] rfl) hM
set_option maxHeartbeats 4000000 in
theorem ok_X0_ruled (hN : Tn th rh ka A j K t) (hnow : rh 0 1 = some (A.tw j)) {f : Nat → Int32} {key : Nat} (hk3 : key < 3) (hnm : ∀ k : Nat, k < 128 → 0 ≤ nameT (nI key) (nI k) → ka 6 k = f (cl (nameT (nI key) (nI k)))) (d : Int32) : Met l yX0_ruled (ws_ yX0_ruled cX0_ruled 4 (some .int)) (RM 102 0 0) (Pc_ G [.ref A.x, .int (nI key), .int d] th rh ph ka) (Qp G th rh ph ka (fun r => r = ruleT t (nI key) f d)) 0 0 (frG G) := by
  refine m_of (by decide) (Nat.le_of_ble_eq_true rfl) ?_
  intro p_ e_ s_ m_ below_ meth_ c_ B hr hnm ls hl hM
  have hx := B.1
  have hb := B.2.1
  have hM := hM
  have hN0 := hN
  obtain ⟨hO, hW, hK, hkd, hR, hT, hX⟩ := hN
  have hN := hN0
  have h14 := hR.2.2.1.2
  refine lv_aload_n hx hb dX0_ruled_0 rfl (lv_at hl 0 rfl) ?_
  refine lv_iload_n hx hb dX0_ruled_1 rfl (lv_at hl 1 rfl) ?_
  refine k_pe (v := opI (cntT t (nI key) (nX t))) (r_V (As := [.int (nI key)]) (rest := []) B hM hO.1 rfl rfl (ok_X0_counts hN hnow (nI key)) cal_X0_counts q457 rfl hl.1 (Nat.le_of_ble_eq_true rfl) dX0_ruled_2 ⟨Nat.le_of_ble_eq_true rfl, Nat.le_of_ble_eq_true rfl⟩ ⟨Nat.le_of_ble_eq_true rfl, Nat.le_of_ble_eq_true rfl⟩) hM (fun H locs hM => ?_)
  refine lv_topi (fun v_1 ev_1 => ?_)
  refine lv_istore_n (lv' := [(3, .int v_1), (0, .ref A.x), (1, .int (nI key)), (2, .int d)]) hx hb dX0_ruled_5 rfl hl (by decide) rfl (fun ls hl => ?_)
  refine lv_iload_n hx hb dX0_ruled_6 rfl (lv_at hl 0 rfl) ?_
  refine lv_if_ge (tgt := 14) hx hb dX0_ruled_7 (by decide) (fun c7 => ?_) (fun c7 => ?_)
  · obtain ⟨x, hcx⟩ := opI_pos (by rw [← ev_1]; exact c7)
    have hvx : v_1 = nI x := by rw [ev_1, hcx]; rfl
    have hx14 : x < nX t := (cntT_some hcx).1
    obtain ⟨aX, keyX, hraX, hk3X, hTxX, htxX⟩ := hX x hx14
    obtain ⟨eX, heX, hTrX⟩ := hTxX.2.2.2
    have hkz : t (107 + 2 * x) / 1000 = nI keyX := by
      obtain ⟨k2, q1, q2, q3, q4⟩ := hR.2.2.2.2 x hx14
      exact (txt_num hk3X q2 htxX).1
    have hkk : keyX = key := (nI_eq (by omega) (by omega)).mp (hkz.symm.trans (cntT_some hcx).2)
    subst hkk
    have hwk := worth_ok (l := l) (G := G) (ph := ph) hO hnm 100 _ _ hTrX
    refine lv_aload_n hx hb dX0_ruled_14 rfl (lv_at hl 1 rfl) ?_
    refine r_getq B hM 1 hO.1 rfl (by decide) rfl rfl hnow q194 dX0_ruled_15 ?_
    refine r_getq B hM 12 hW.1 rfl (by decide) rfl rfl (hW.2.1 12 _ _ rfl).1 q147 dX0_ruled_18 ?_
    refine lv_iload_n hx hb dX0_ruled_21 rfl (lv_at hl 0 rfl) ?_
    refine r_aldq B hM x (show th (A.ta j 12) = some (45 + 10 * j, .inr (7, 14)) from (hW.2.1 12 _ _ rfl).2) rfl (by decide) (by rw [hvx]) (by omega) (by decide) hraX dX0_ruled_22 ?_
    refine r_getq B hM 2 hTxX.1 rfl (by decide) rfl rfl heX q1142 dX0_ruled_23 ?_
    refine k_p5 (r_FA (As := []) (rest := []) B hM (hwk) q462 rfl hl.1 (Nat.le_of_ble_eq_true rfl) dX0_ruled_26 ⟨Nat.le_of_ble_eq_true rfl, Nat.le_of_ble_eq_true rfl⟩ ⟨Nat.le_of_ble_eq_true rfl, Nat.le_of_ble_eq_true rfl⟩) hM (fun r_ H locs hr_ hM => ?_)
    refine r_iretp B hr hM dX0_ruled_31 ?_
    unfold ruleT
    rw [hcx]
    show _ = worksT t x f
    unfold worksT
    rw [hr_]
    rfl
  · refine lv_iload_n hx hb dX0_ruled_10 rfl (lv_at hl 3 rfl) ?_
    refine lv_goto (tgt := 31) hx hb dX0_ruled_11 (by decide) ?_
    refine r_iretp B hr hM dX0_ruled_31 ?_
    unfold ruleT
    rw [opI_neg (t := t) (by rw [← ev_1]; exact c7) (cntT_lt hR)]
end
