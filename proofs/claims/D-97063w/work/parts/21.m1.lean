/-! the model: small methods -/
set_option maxRecDepth 100000
section
variable {l : Launch} {G : GG} {th : Th} {rh : Rh} {ph : Ph} {ka : Ka} {y0 : Nat} {ay : Nat → Nat}
set_option maxHeartbeats 4000000 in
theorem ok_in (v a b : Int32) : Met l yX3_in (ws_ yX3_in cX3_in 3 (some .boolean)) (RM 1 0 0) (Pc_ G [.int v, .int a, .int b] th rh ph ka) (Qp G th rh ph ka (fun r => (r = 1 ∧ (a ≤ v ∧ v ≤ b)) ∨ (r = 0 ∧ ¬ (a ≤ v ∧ v ≤ b)))) 0 0 (frG G) := by
  refine m_of (by decide) (Nat.le_of_ble_eq_true rfl) ?_
  intro p_ e_ s_ m_ below_ meth_ c_ B hr hnm ls hl hM
  have hx := B.1
  have hb := B.2.1
  have hM := hM
  refine lv_iload_n hx hb dX3_in_0 rfl (lv_at hl 0 rfl) ?_
  refine lv_iload_n hx hb dX3_in_1 rfl (lv_at hl 1 rfl) ?_
  refine lv_icmp_lt (tgt := 14) hx hb dX3_in_2 (by decide) (fun c2 => ?_) (fun c2 => ?_)
  · refine lv_iconst (v := 0) hx hb dX3_in_14 (by decide) ?_
    refine r_zretp B hr hM dX3_in_15 (Or.inl rfl) ?_
    grind
  · refine lv_iload_n hx hb dX3_in_5 rfl (lv_at hl 0 rfl) ?_
    refine lv_iload_n hx hb dX3_in_6 rfl (lv_at hl 2 rfl) ?_
    refine lv_icmp_gt (tgt := 14) hx hb dX3_in_7 (by decide) (fun c7 => ?_) (fun c7 => ?_)
    · refine lv_iconst (v := 0) hx hb dX3_in_14 (by decide) ?_
      refine r_zretp B hr hM dX3_in_15 (Or.inl rfl) ?_
      grind
    · refine lv_iconst (v := 1) hx hb dX3_in_10 (by decide) ?_
      refine lv_goto (tgt := 15) hx hb dX3_in_11 (by decide) ?_
      refine r_zretp B hr hM dX3_in_15 (Or.inr rfl) ?_
      grind
set_option maxHeartbeats 4000000 in
theorem ok_within (v a b : Int32) : Met l yX3_within (ws_ yX3_within cX3_within 3 (some .int)) (RM 1 0 0) (Pc_ G [.int v, .int a, .int b] th rh ph ka) (Qp G th rh ph ka (fun r => r = wi v a b)) 0 0 (frG G) := by
  refine m_of (by decide) (Nat.le_of_ble_eq_true rfl) ?_
  intro p_ e_ s_ m_ below_ meth_ c_ B hr hnm ls hl hM
  have hx := B.1
  have hb := B.2.1
  have hM := hM
  refine lv_iload_n hx hb dX3_within_0 rfl (lv_at hl 0 rfl) ?_
  refine lv_iload_n hx hb dX3_within_1 rfl (lv_at hl 1 rfl) ?_
  refine lv_icmp_ge (tgt := 9) hx hb dX3_within_2 (by decide) (fun c2 => ?_) (fun c2 => ?_)
  · refine lv_iload_n hx hb dX3_within_9 rfl (lv_at hl 0 rfl) ?_
    refine lv_iload_n hx hb dX3_within_10 rfl (lv_at hl 2 rfl) ?_
    refine lv_icmp_le (tgt := 18) hx hb dX3_within_11 (by decide) (fun c11 => ?_) (fun c11 => ?_)
    · refine lv_iload_n hx hb dX3_within_18 rfl (lv_at hl 0 rfl) ?_
      refine r_iretp B hr hM dX3_within_19 ?_
      grind [wi]
    · refine lv_iload_n hx hb dX3_within_14 rfl (lv_at hl 2 rfl) ?_
      refine lv_goto (tgt := 19) hx hb dX3_within_15 (by decide) ?_
      refine r_iretp B hr hM dX3_within_19 ?_
      grind [wi]
  · refine lv_iload_n hx hb dX3_within_5 rfl (lv_at hl 1 rfl) ?_
    refine lv_goto (tgt := 19) hx hb dX3_within_6 (by decide) ?_
    refine r_iretp B hr hM dX3_within_19 ?_
    grind [wi]
set_option maxHeartbeats 4000000 in
theorem ok_told0 (v : Int32) : Met l yX3_told0 (ws_ yX3_told0 cX3_told0 1 (some .int)) (RM 1 0 0) (Pc_ G [.int v] th rh ph ka) (Qp G th rh ph ka (fun r => r = none0 v)) 0 0 (frG G) := by
  refine m_of (by decide) (Nat.le_of_ble_eq_true rfl) ?_
  intro p_ e_ s_ m_ below_ meth_ c_ B hr hnm ls hl hM
  have hx := B.1
  have hb := B.2.1
  have hM := hM
  refine lv_iload_n hx hb dX3_told0_0 rfl (lv_at hl 0 rfl) ?_
  refine lv_if_ge (tgt := 9) hx hb dX3_told0_1 (by decide) (fun c1 => ?_) (fun c1 => ?_)
  · refine lv_iload_n hx hb dX3_told0_9 rfl (lv_at hl 0 rfl) ?_
    refine r_iretp B hr hM dX3_told0_10 ?_
    grind [none0]
  · refine lv_ldc hx hb B.2.2.2.1 (B.ts _ q1681) dX3_told0_4 ?_
    refine lv_goto (tgt := 10) hx hb dX3_told0_6 (by decide) ?_
    refine r_iretp B hr hM dX3_told0_10 ?_
    grind [none0]
set_option maxHeartbeats 4000000 in
theorem ok_of (hL : LayM th rh y0 ay) {c w : Nat} (hc : c < 8) (hw : w < 6) : Met l yX3_of (ws_ yX3_of cX3_of 3 (some .int)) (RM 1 0 0) (Pc_ G [.ref y0, .int (nI c), .int (nI w)] th rh ph ka) (Qp G th rh ph ka (fun r => r = ka 1000 (7 + 6 * c + w))) 0 0 (frG G) := by
  refine m_of (by decide) (Nat.le_of_ble_eq_true rfl) ?_
  intro p_ e_ s_ m_ below_ meth_ c_ B hr hnm ls hl hM
  have hx := B.1
  have hb := B.2.1
  have hM := hM
  refine lv_aload_n hx hb dX3_of_0 rfl (lv_at hl 0 rfl) ?_
  refine r_getq B hM 0 hL.1 rfl (by decide) rfl rfl (hL.2 0 _ _ rfl).1 q1382 dX3_of_1 ?_
  refine lv_bipush (v := 7) hx hb dX3_of_4 (by decide) ?_
  refine lv_bipush (v := 6) hx hb dX3_of_6 (by decide) ?_
  refine lv_iload_n hx hb dX3_of_8 rfl (lv_at hl 1 rfl) ?_
  refine lv_imul hx hb dX3_of_9 ?_
  refine lv_iadd hx hb dX3_of_10 ?_
  refine lv_iload_n hx hb dX3_of_11 rfl (lv_at hl 2 rfl) ?_
  refine lv_iadd hx hb dX3_of_12 ?_
  refine r_ild B hM (7 + 6 * c + w) (hL.2 0 _ _ rfl).2 (by simp only [nA, nMu, nL]) (by omega) (by decide) dX3_of_13 ?_
  refine r_iretp B hr hM dX3_of_14 ?_
  exact rfl
set_option maxHeartbeats 4000000 in
theorem ok_at (hL : LayM th rh y0 ay) {c w : Nat} (hc : c < 13) (hw : w < 4) : Met l yX3_at (ws_ yX3_at cX3_at 3 (some .int)) (RM 1 0 0) (Pc_ G [.ref y0, .int (nI c), .int (nI w)] th rh ph ka) (Qp G th rh ph ka (fun r => r = ka 1000 (55 + 4 * c + w))) 0 0 (frG G) := by
  refine m_of (by decide) (Nat.le_of_ble_eq_true rfl) ?_
  intro p_ e_ s_ m_ below_ meth_ c_ B hr hnm ls hl hM
  have hx := B.1
  have hb := B.2.1
  have hM := hM
  refine lv_aload_n hx hb dX3_at_0 rfl (lv_at hl 0 rfl) ?_
  refine r_getq B hM 0 hL.1 rfl (by decide) rfl rfl (hL.2 0 _ _ rfl).1 q1382 dX3_at_1 ?_
  refine lv_bipush (v := 55) hx hb dX3_at_4 (by decide) ?_
  refine lv_iconst (v := 4) hx hb dX3_at_6 (by decide) ?_
  refine lv_iload_n hx hb dX3_at_7 rfl (lv_at hl 1 rfl) ?_
  refine lv_imul hx hb dX3_at_8 ?_
  refine lv_iadd hx hb dX3_at_9 ?_
  refine lv_iload_n hx hb dX3_at_10 rfl (lv_at hl 2 rfl) ?_
  refine lv_iadd hx hb dX3_at_11 ?_
  refine r_ild B hM (55 + 4 * c + w) (hL.2 0 _ _ rfl).2 (by simp only [nA, nMu, nL]) (by omega) (by decide) dX3_at_12 ?_
  refine r_iretp B hr hM dX3_at_13 ?_
  exact rfl
set_option maxHeartbeats 4000000 in
theorem ok_becomes (hL : LayM th rh y0 ay) {i : Nat} (hi : i < 1479) (v : Int32) : Met l yX3_becomes (ws_ yX3_becomes cX3_becomes 4 (some .int)) (RM 1 0 0) (Pc_ G [.ref y0, .int (nI i), .int v] th rh ph ka) (Qi G th rh ph (fun r ka' => r = ka 1000 i ∧ ka' = up2 ka 1000 i v)) 0 0 (frG G) := by
  refine m_of (by decide) (Nat.le_of_ble_eq_true rfl) ?_
  intro p_ e_ s_ m_ below_ meth_ c_ B hr hnm ls hl hM
  have hx := B.1
  have hb := B.2.1
  have hM := hM
  refine lv_aload_n hx hb dX3_becomes_0 rfl (lv_at hl 0 rfl) ?_
  refine r_getq B hM 0 hL.1 rfl (by decide) rfl rfl (hL.2 0 _ _ rfl).1 q1382 dX3_becomes_1 ?_
  refine lv_iload_n hx hb dX3_becomes_4 rfl (lv_at hl 1 rfl) ?_
  refine r_ild B hM i (hL.2 0 _ _ rfl).2 rfl (by omega) (by decide) dX3_becomes_5 ?_
  refine lv_topi (fun v_1 ev_1 => ?_)
  refine lv_istore_n (lv' := [(3, .int v_1), (0, .ref y0), (1, .int (nI i)), (2, .int v)]) hx hb dX3_becomes_6 rfl hl (by decide) rfl (fun ls hl => ?_)
  refine lv_aload_n hx hb dX3_becomes_7 rfl (lv_at hl 1 rfl) ?_
  refine r_getq B hM 0 hL.1 rfl (by decide) rfl rfl (hL.2 0 _ _ rfl).1 q1382 dX3_becomes_8 ?_
  refine lv_iload_n hx hb dX3_becomes_11 rfl (lv_at hl 2 rfl) ?_
  refine lv_iload_n hx hb dX3_becomes_12 rfl (lv_at hl 3 rfl) ?_
  refine r_ist B hM i (hL.2 0 _ _ rfl).2 rfl (by omega) (by decide) dX3_becomes_13 (fun ka_2 H locs eka_2 hM => ?_)
  refine lv_iload_n hx hb dX3_becomes_14 rfl (lv_at hl 0 rfl) ?_
  refine r_iret B hr hM dX3_becomes_15 ?_
  exact ⟨by assumption, by assumption⟩
end
