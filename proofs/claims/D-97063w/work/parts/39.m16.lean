/-! the model: texts, sign by sign -/
set_option maxRecDepth 100000
section
variable {l : Launch} {G : GG} {th : Th} {rh : Rh} {ph : Ph} {ka : Ka} {y0 : Nat} {ay : Nat → Nat}
set_option maxHeartbeats 4000000 in
theorem ok_isLetter (hL : LayM th rh y0 ay) {n : Nat} (hn96 : n ≤ 96) (hn : ka 1099 8 = nI n) {k : Nat} (hk : k ≤ n) : Met l yX3_isLetter (ws_ yX3_isLetter cX3_isLetter 2 (some .boolean)) (RM 1 0 0) (Pc_ G [.ref y0, .int (nI k)] th rh ph ka) (Qp G th rh ph ka (fun r => (r = 1 ∧ ltr (ka 1007) n k) ∨ (r = 0 ∧ ¬ ltr (ka 1007) n k))) 0 0 (frG G) := by
  refine m_of (by decide) (Nat.le_of_ble_eq_true rfl) ?_
  intro p_ e_ s_ m_ below_ meth_ c_ B hr hnm ls hl hM
  have hx := B.1
  have hb := B.2.1
  have hM := hM
  refine lv_iload_n hx hb dX3_isLetter_0 rfl (lv_at hl 1 rfl) ?_
  refine lv_aload_n hx hb dX3_isLetter_1 rfl (lv_at hl 0 rfl) ?_
  refine r_geti B hM 8 hL.1 rfl (by decide) rfl rfl q1390 dX3_isLetter_2 ?_
  refine lv_icmp_ge (tgt := 34) hx hb dX3_isLetter_5 (by decide) (fun c5 => ?_) (fun c5 => ?_)
  · have n5 : n ≤ k := ntLe (by rw [hn]) rfl (by omega) (by omega) c5
    refine lv_iconst (v := 0) hx hb dX3_isLetter_34 (by decide) ?_
    refine r_zretp B hr hM dX3_isLetter_35 (Or.inl rfl) ?_
    exact Or.inr ⟨rfl, fun q => absurd q.1 (by omega)⟩
  · have n5 : k < n := ntNle (by rw [hn]) rfl (by omega) (by omega) c5
    refine lv_aload_n hx hb dX3_isLetter_8 rfl (lv_at hl 0 rfl) ?_
    refine r_getq B hM 7 hL.1 rfl (by decide) rfl rfl (hL.2 7 _ _ rfl).1 q1389 dX3_isLetter_9 ?_
    refine lv_iload_n hx hb dX3_isLetter_12 rfl (lv_at hl 1 rfl) ?_
    refine r_ild B hM k (hL.2 7 _ _ rfl).2 rfl (by omega) (by decide) dX3_isLetter_13 ?_
    refine lv_bipush (v := 97) hx hb dX3_isLetter_14 (by decide) ?_
    refine lv_icmp_lt (tgt := 34) hx hb dX3_isLetter_16 (by decide) (fun c16 => ?_) (fun c16 => ?_)
    · refine lv_iconst (v := 0) hx hb dX3_isLetter_34 (by decide) ?_
      refine r_zretp B hr hM dX3_isLetter_35 (Or.inl rfl) ?_
      exact Or.inr ⟨rfl, fun q => absurd q.2.1 (i_nle.mpr c16)⟩
    · refine lv_aload_n hx hb dX3_isLetter_19 rfl (lv_at hl 0 rfl) ?_
      refine r_getq B hM 7 hL.1 rfl (by decide) rfl rfl (hL.2 7 _ _ rfl).1 q1389 dX3_isLetter_20 ?_
      refine lv_iload_n hx hb dX3_isLetter_23 rfl (lv_at hl 1 rfl) ?_
      refine r_ild B hM k (hL.2 7 _ _ rfl).2 rfl (by omega) (by decide) dX3_isLetter_24 ?_
      refine lv_bipush (v := 122) hx hb dX3_isLetter_25 (by decide) ?_
      refine lv_icmp_gt (tgt := 34) hx hb dX3_isLetter_27 (by decide) (fun c27 => ?_) (fun c27 => ?_)
      · refine lv_iconst (v := 0) hx hb dX3_isLetter_34 (by decide) ?_
        refine r_zretp B hr hM dX3_isLetter_35 (Or.inl rfl) ?_
        exact Or.inr ⟨rfl, fun q => absurd q.2.2 (i_nle.mpr c27)⟩
      · refine lv_iconst (v := 1) hx hb dX3_isLetter_30 (by decide) ?_
        refine lv_goto (tgt := 35) hx hb dX3_isLetter_31 (by decide) ?_
        refine r_zretp B hr hM dX3_isLetter_35 (Or.inr rfl) ?_
        exact Or.inl ⟨rfl, by omega, i_nlt.mp c16, i_nlt.mp c27⟩
set_option maxHeartbeats 4000000 in
theorem ok_isFigure (hL : LayM th rh y0 ay) {n : Nat} (hn96 : n ≤ 96) (hn : ka 1099 8 = nI n) {k : Nat} (hk : k ≤ n) : Met l yX3_isFigure (ws_ yX3_isFigure cX3_isFigure 2 (some .boolean)) (RM 1 0 0) (Pc_ G [.ref y0, .int (nI k)] th rh ph ka) (Qp G th rh ph ka (fun r => (r = 1 ∧ fig (ka 1007) n k) ∨ (r = 0 ∧ ¬ fig (ka 1007) n k))) 0 0 (frG G) := by
  refine m_of (by decide) (Nat.le_of_ble_eq_true rfl) ?_
  intro p_ e_ s_ m_ below_ meth_ c_ B hr hnm ls hl hM
  have hx := B.1
  have hb := B.2.1
  have hM := hM
  refine lv_iload_n hx hb dX3_isFigure_0 rfl (lv_at hl 1 rfl) ?_
  refine lv_aload_n hx hb dX3_isFigure_1 rfl (lv_at hl 0 rfl) ?_
  refine r_geti B hM 8 hL.1 rfl (by decide) rfl rfl q1390 dX3_isFigure_2 ?_
  refine lv_icmp_ge (tgt := 34) hx hb dX3_isFigure_5 (by decide) (fun c5 => ?_) (fun c5 => ?_)
  · have n5 : n ≤ k := ntLe (by rw [hn]) rfl (by omega) (by omega) c5
    refine lv_iconst (v := 0) hx hb dX3_isFigure_34 (by decide) ?_
    refine r_zretp B hr hM dX3_isFigure_35 (Or.inl rfl) ?_
    exact Or.inr ⟨rfl, fun q => absurd q.1 (by omega)⟩
  · have n5 : k < n := ntNle (by rw [hn]) rfl (by omega) (by omega) c5
    refine lv_aload_n hx hb dX3_isFigure_8 rfl (lv_at hl 0 rfl) ?_
    refine r_getq B hM 7 hL.1 rfl (by decide) rfl rfl (hL.2 7 _ _ rfl).1 q1389 dX3_isFigure_9 ?_
    refine lv_iload_n hx hb dX3_isFigure_12 rfl (lv_at hl 1 rfl) ?_
    refine r_ild B hM k (hL.2 7 _ _ rfl).2 rfl (by omega) (by decide) dX3_isFigure_13 ?_
    refine lv_bipush (v := 48) hx hb dX3_isFigure_14 (by decide) ?_
    refine lv_icmp_lt (tgt := 34) hx hb dX3_isFigure_16 (by decide) (fun c16 => ?_) (fun c16 => ?_)
    · refine lv_iconst (v := 0) hx hb dX3_isFigure_34 (by decide) ?_
      refine r_zretp B hr hM dX3_isFigure_35 (Or.inl rfl) ?_
      exact Or.inr ⟨rfl, fun q => absurd q.2.1 (i_nle.mpr c16)⟩
    · refine lv_aload_n hx hb dX3_isFigure_19 rfl (lv_at hl 0 rfl) ?_
      refine r_getq B hM 7 hL.1 rfl (by decide) rfl rfl (hL.2 7 _ _ rfl).1 q1389 dX3_isFigure_20 ?_
      refine lv_iload_n hx hb dX3_isFigure_23 rfl (lv_at hl 1 rfl) ?_
      refine r_ild B hM k (hL.2 7 _ _ rfl).2 rfl (by omega) (by decide) dX3_isFigure_24 ?_
      refine lv_bipush (v := 57) hx hb dX3_isFigure_25 (by decide) ?_
      refine lv_icmp_gt (tgt := 34) hx hb dX3_isFigure_27 (by decide) (fun c27 => ?_) (fun c27 => ?_)
      · refine lv_iconst (v := 0) hx hb dX3_isFigure_34 (by decide) ?_
        refine r_zretp B hr hM dX3_isFigure_35 (Or.inl rfl) ?_
        exact Or.inr ⟨rfl, fun q => absurd q.2.2 (i_nle.mpr c27)⟩
      · refine lv_iconst (v := 1) hx hb dX3_isFigure_30 (by decide) ?_
        refine lv_goto (tgt := 35) hx hb dX3_isFigure_31 (by decide) ?_
        refine r_zretp B hr hM dX3_isFigure_35 (Or.inr rfl) ?_
        exact Or.inl ⟨rfl, by omega, i_nlt.mp c16, i_nlt.mp c27⟩
end
