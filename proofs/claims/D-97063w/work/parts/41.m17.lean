/-! the model: texts, signs and stacks -/
set_option maxRecDepth 100000
section
variable {l : Launch} {G : GG} {th : Th} {rh : Rh} {ph : Ph} {ka : Ka} {y0 : Nat} {ay : Nat → Nat}
set_option maxHeartbeats 4000000 in
theorem ok_rank (x : Int32) : Met l yX3_rank (ws_ yX3_rank cX3_rank 1 (some .int)) (RM 1 0 0) (Pc_ G [.int x] th rh ph ka) (Qp G th rh ph ka (fun r => r = rankT x)) 0 0 (frG G) := by
  refine m_of (by decide) (Nat.le_of_ble_eq_true rfl) ?_
  intro p_ e_ s_ m_ below_ meth_ c_ B hr hnm ls hl hM
  have hx := B.1
  have hb := B.2.1
  have hM := hM
  refine lv_iload_n hx hb dX3_rank_0 rfl (lv_at hl 0 rfl) ?_
  refine lv_iconst (v := (-1)) hx hb dX3_rank_1 (by decide) ?_
  refine lv_icmp_ne (tgt := 9) hx hb dX3_rank_2 (by decide) (fun c2 => ?_) (fun c2 => ?_)
  · refine lv_iload_n hx hb dX3_rank_9 rfl (lv_at hl 0 rfl) ?_
    refine lv_bipush (v := (-2)) hx hb dX3_rank_10 (by decide) ?_
    refine lv_icmp_ne (tgt := 19) hx hb dX3_rank_12 (by decide) (fun c12 => ?_) (fun c12 => ?_)
    · refine lv_iload_n hx hb dX3_rank_19 rfl (lv_at hl 0 rfl) ?_
      refine lv_bipush (v := (-5)) hx hb dX3_rank_20 (by decide) ?_
      refine lv_icmp_lt (tgt := 29) hx hb dX3_rank_22 (by decide) (fun c22 => ?_) (fun c22 => ?_)
      · refine lv_iload_n hx hb dX3_rank_29 rfl (lv_at hl 0 rfl) ?_
        refine lv_bipush (v := (-7)) hx hb dX3_rank_30 (by decide) ?_
        refine lv_icmp_lt (tgt := 39) hx hb dX3_rank_32 (by decide) (fun c32 => ?_) (fun c32 => ?_)
        · refine lv_iload_n hx hb dX3_rank_39 rfl (lv_at hl 0 rfl) ?_
          refine lv_bipush (v := (-9)) hx hb dX3_rank_40 (by decide) ?_
          refine lv_icmp_lt (tgt := 49) hx hb dX3_rank_42 (by decide) (fun c42 => ?_) (fun c42 => ?_)
          · refine lv_bipush (v := 6) hx hb dX3_rank_49 (by decide) ?_
            refine r_iretp B hr hM dX3_rank_51 ?_
            unfold rankT; grind
          · refine lv_iconst (v := 5) hx hb dX3_rank_45 (by decide) ?_
            refine lv_goto (tgt := 51) hx hb dX3_rank_46 (by decide) ?_
            refine r_iretp B hr hM dX3_rank_51 ?_
            unfold rankT; grind
        · refine lv_iconst (v := 4) hx hb dX3_rank_35 (by decide) ?_
          refine lv_goto (tgt := 51) hx hb dX3_rank_36 (by decide) ?_
          refine r_iretp B hr hM dX3_rank_51 ?_
          unfold rankT; grind
      · refine lv_iconst (v := 3) hx hb dX3_rank_25 (by decide) ?_
        refine lv_goto (tgt := 51) hx hb dX3_rank_26 (by decide) ?_
        refine r_iretp B hr hM dX3_rank_51 ?_
        unfold rankT; grind
    · refine lv_iconst (v := 2) hx hb dX3_rank_15 (by decide) ?_
      refine lv_goto (tgt := 51) hx hb dX3_rank_16 (by decide) ?_
      refine r_iretp B hr hM dX3_rank_51 ?_
      unfold rankT; grind
  · refine lv_iconst (v := 1) hx hb dX3_rank_5 (by decide) ?_
    refine lv_goto (tgt := 51) hx hb dX3_rank_6 (by decide) ?_
    refine r_iretp B hr hM dX3_rank_51 ?_
    unfold rankT; grind
set_option maxHeartbeats 4000000 in
theorem ok_nameOf (hL : LayM th rh y0 ay) (x : Int32) : Met l yX3_nameOf (ws_ yX3_nameOf cX3_nameOf 2 (some .int)) (RM 1 0 0) (Pc_ G [.ref y0, .int x] th rh ph ka) (Qp G th rh ph ka (fun r => r = nameT (ka 1099 14) x)) 0 0 (frG G) := by
  refine m_of (by decide) (Nat.le_of_ble_eq_true rfl) ?_
  intro p_ e_ s_ m_ below_ meth_ c_ B hr hnm ls hl hM
  have hx := B.1
  have hb := B.2.1
  have hM := hM
  refine lv_aload_n hx hb dX3_nameOf_0 rfl (lv_at hl 0 rfl) ?_
  refine r_geti B hM 14 hL.1 rfl (by decide) rfl rfl q1396 dX3_nameOf_1 ?_
  by_cases w4_0 : ka 1099 14 = 0
  · refine lv_lookup (tgt := 32) (off := 28) hx hb dX3_nameOf_4 (by decide) (by rw [w4_0]; decide) (by decide) ?_
    refine lv_iload_n hx hb dX3_nameOf_32 rfl (lv_at hl 1 rfl) ?_
    refine lv_bipush (v := 102) hx hb dX3_nameOf_33 (by decide) ?_
    refine lv_icmp_ne (tgt := 42) hx hb dX3_nameOf_35 (by decide) (fun c35 => ?_) (fun c35 => ?_)
    · refine lv_iload_n hx hb dX3_nameOf_42 rfl (lv_at hl 1 rfl) ?_
      refine lv_bipush (v := 108) hx hb dX3_nameOf_43 (by decide) ?_
      refine lv_icmp_ne (tgt := 52) hx hb dX3_nameOf_45 (by decide) (fun c45 => ?_) (fun c45 => ?_)
      · refine lv_iload_n hx hb dX3_nameOf_52 rfl (lv_at hl 1 rfl) ?_
        refine lv_bipush (v := 119) hx hb dX3_nameOf_53 (by decide) ?_
        refine lv_icmp_ne (tgt := 62) hx hb dX3_nameOf_55 (by decide) (fun c55 => ?_) (fun c55 => ?_)
        · refine lv_iconst (v := (-1)) hx hb dX3_nameOf_62 (by decide) ?_
          refine r_iretp B hr hM dX3_nameOf_63 ?_
          unfold nameT; grind
        · refine lv_iconst (v := 2) hx hb dX3_nameOf_58 (by decide) ?_
          refine lv_goto (tgt := 63) hx hb dX3_nameOf_59 (by decide) ?_
          refine r_iretp B hr hM dX3_nameOf_63 ?_
          unfold nameT; grind
      · refine lv_iconst (v := 1) hx hb dX3_nameOf_48 (by decide) ?_
        refine lv_goto (tgt := 63) hx hb dX3_nameOf_49 (by decide) ?_
        refine r_iretp B hr hM dX3_nameOf_63 ?_
        unfold nameT; grind
    · refine lv_iconst (v := 0) hx hb dX3_nameOf_38 (by decide) ?_
      refine lv_goto (tgt := 63) hx hb dX3_nameOf_39 (by decide) ?_
      refine r_iretp B hr hM dX3_nameOf_63 ?_
      unfold nameT; grind
  by_cases w4_1 : ka 1099 14 = 1
  · refine lv_lookup (tgt := 64) (off := 60) hx hb dX3_nameOf_4 (by decide) (by rw [w4_1]; decide) (by decide) ?_
    refine lv_iload_n hx hb dX3_nameOf_64 rfl (lv_at hl 1 rfl) ?_
    refine lv_bipush (v := 115) hx hb dX3_nameOf_65 (by decide) ?_
    refine lv_icmp_ne (tgt := 74) hx hb dX3_nameOf_67 (by decide) (fun c67 => ?_) (fun c67 => ?_)
    · refine lv_iload_n hx hb dX3_nameOf_74 rfl (lv_at hl 1 rfl) ?_
      refine lv_bipush (v := 104) hx hb dX3_nameOf_75 (by decide) ?_
      refine lv_icmp_ne (tgt := 84) hx hb dX3_nameOf_77 (by decide) (fun c77 => ?_) (fun c77 => ?_)
      · refine lv_iconst (v := (-1)) hx hb dX3_nameOf_84 (by decide) ?_
        refine r_iretp B hr hM dX3_nameOf_85 ?_
        unfold nameT; grind
      · refine lv_iconst (v := 1) hx hb dX3_nameOf_80 (by decide) ?_
        refine lv_goto (tgt := 85) hx hb dX3_nameOf_81 (by decide) ?_
        refine r_iretp B hr hM dX3_nameOf_85 ?_
        unfold nameT; grind
    · refine lv_iconst (v := 0) hx hb dX3_nameOf_70 (by decide) ?_
      refine lv_goto (tgt := 85) hx hb dX3_nameOf_71 (by decide) ?_
      refine r_iretp B hr hM dX3_nameOf_85 ?_
      unfold nameT; grind
  have tw4_0 : Int32.toInt (ka 1099 14) ≠ 0 := fun z => w4_0 (Int32.toInt_inj.mp (z.trans (by decide)))
  have tw4_1 : Int32.toInt (ka 1099 14) ≠ 1 := fun z => w4_1 (Int32.toInt_inj.mp (z.trans (by decide)))
  refine lv_lookup (tgt := 86) (off := 82) hx hb dX3_nameOf_4 (by decide) (by clear hM hl; generalize Int32.toInt (ka 1099 14) = zz at tw4_0 tw4_1 ⊢; simp [Op.lookupswitch.offset, Ne.symm tw4_0, Ne.symm tw4_1]) (by decide) ?_
  refine lv_iload_n hx hb dX3_nameOf_86 rfl (lv_at hl 1 rfl) ?_
  refine lv_bipush (v := 119) hx hb dX3_nameOf_87 (by decide) ?_
  refine lv_icmp_ne (tgt := 96) hx hb dX3_nameOf_89 (by decide) (fun c89 => ?_) (fun c89 => ?_)
  · refine lv_iload_n hx hb dX3_nameOf_96 rfl (lv_at hl 1 rfl) ?_
    refine lv_bipush (v := 108) hx hb dX3_nameOf_97 (by decide) ?_
    refine lv_icmp_ne (tgt := 106) hx hb dX3_nameOf_99 (by decide) (fun c99 => ?_) (fun c99 => ?_)
    · refine lv_iconst (v := (-1)) hx hb dX3_nameOf_106 (by decide) ?_
      refine r_iretp B hr hM dX3_nameOf_107 ?_
      unfold nameT; grind
    · refine lv_iconst (v := 1) hx hb dX3_nameOf_102 (by decide) ?_
      refine lv_goto (tgt := 107) hx hb dX3_nameOf_103 (by decide) ?_
      refine r_iretp B hr hM dX3_nameOf_107 ?_
      unfold nameT; grind
  · refine lv_iconst (v := 0) hx hb dX3_nameOf_92 (by decide) ?_
    refine lv_goto (tgt := 107) hx hb dX3_nameOf_93 (by decide) ?_
    refine r_iretp B hr hM dX3_nameOf_107 ?_
    unfold nameT; grind
set_option maxHeartbeats 4000000 in
theorem ok_signHere (hL : LayM th rh y0 ay)  : Met l yX3_signHere (ws_ yX3_signHere cX3_signHere 1 (some .int)) (RM 1 0 0) (Pc_ G [.ref y0] th rh ph ka) (Qp G th rh ph ka (fun r => r = sgnT (ka 1099 11) (ka 1099 12))) 0 0 (frG G) := by
  refine m_of (by decide) (Nat.le_of_ble_eq_true rfl) ?_
  intro p_ e_ s_ m_ below_ meth_ c_ B hr hnm ls hl hM
  have hx := B.1
  have hb := B.2.1
  have hM := hM
  refine lv_aload_n hx hb dX3_signHere_0 rfl (lv_at hl 0 rfl) ?_
  refine r_geti B hM 11 hL.1 rfl (by decide) rfl rfl q1393 dX3_signHere_1 ?_
  refine lv_iconst (v := 3) hx hb dX3_signHere_4 (by decide) ?_
  refine lv_icmp_eq (tgt := 10) hx hb dX3_signHere_5 (by decide) (fun c5 => ?_) (fun c5 => ?_)
  · refine lv_aload_n hx hb dX3_signHere_10 rfl (lv_at hl 0 rfl) ?_
    refine r_geti B hM 12 hL.1 rfl (by decide) rfl rfl q1394 dX3_signHere_11 ?_
    by_cases w14_38 : ka 1099 12 = 38
    · refine lv_lookup (tgt := 98) (off := 84) hx hb dX3_signHere_14 (by decide) (by rw [w14_38]; decide) (by decide) ?_
      refine lv_bipush (v := (-2)) hx hb dX3_signHere_98 (by decide) ?_
      refine r_iretp B hr hM dX3_signHere_100 ?_
      unfold sgnT sgnV; grind
    by_cases w14_42 : ka 1099 12 = 42
    · refine lv_lookup (tgt := 116) (off := 102) hx hb dX3_signHere_14 (by decide) (by rw [w14_42]; decide) (by decide) ?_
      refine lv_bipush (v := (-8)) hx hb dX3_signHere_116 (by decide) ?_
      refine r_iretp B hr hM dX3_signHere_118 ?_
      unfold sgnT sgnV; grind
    by_cases w14_43 : ka 1099 12 = 43
    · refine lv_lookup (tgt := 110) (off := 96) hx hb dX3_signHere_14 (by decide) (by rw [w14_43]; decide) (by decide) ?_
      refine lv_bipush (v := (-6)) hx hb dX3_signHere_110 (by decide) ?_
      refine r_iretp B hr hM dX3_signHere_112 ?_
      unfold sgnT sgnV; grind
    by_cases w14_45 : ka 1099 12 = 45
    · refine lv_lookup (tgt := 113) (off := 99) hx hb dX3_signHere_14 (by decide) (by rw [w14_45]; decide) (by decide) ?_
      refine lv_bipush (v := (-7)) hx hb dX3_signHere_113 (by decide) ?_
      refine r_iretp B hr hM dX3_signHere_115 ?_
      unfold sgnT sgnV; grind
    by_cases w14_47 : ka 1099 12 = 47
    · refine lv_lookup (tgt := 119) (off := 105) hx hb dX3_signHere_14 (by decide) (by rw [w14_47]; decide) (by decide) ?_
      refine lv_bipush (v := (-9)) hx hb dX3_signHere_119 (by decide) ?_
      refine r_iretp B hr hM dX3_signHere_121 ?_
      unfold sgnT sgnV; grind
    by_cases w14_60 : ka 1099 12 = 60
    · refine lv_lookup (tgt := 101) (off := 87) hx hb dX3_signHere_14 (by decide) (by rw [w14_60]; decide) (by decide) ?_
      refine lv_bipush (v := (-3)) hx hb dX3_signHere_101 (by decide) ?_
      refine r_iretp B hr hM dX3_signHere_103 ?_
      unfold sgnT sgnV; grind
    by_cases w14_61 : ka 1099 12 = 61
    · refine lv_lookup (tgt := 104) (off := 90) hx hb dX3_signHere_14 (by decide) (by rw [w14_61]; decide) (by decide) ?_
      refine lv_bipush (v := (-4)) hx hb dX3_signHere_104 (by decide) ?_
      refine r_iretp B hr hM dX3_signHere_106 ?_
      unfold sgnT sgnV; grind
    by_cases w14_62 : ka 1099 12 = 62
    · refine lv_lookup (tgt := 107) (off := 93) hx hb dX3_signHere_14 (by decide) (by rw [w14_62]; decide) (by decide) ?_
      refine lv_bipush (v := (-5)) hx hb dX3_signHere_107 (by decide) ?_
      refine r_iretp B hr hM dX3_signHere_109 ?_
      unfold sgnT sgnV; grind
    by_cases w14_124 : ka 1099 12 = 124
    · refine lv_lookup (tgt := 96) (off := 82) hx hb dX3_signHere_14 (by decide) (by rw [w14_124]; decide) (by decide) ?_
      refine lv_iconst (v := (-1)) hx hb dX3_signHere_96 (by decide) ?_
      refine r_iretp B hr hM dX3_signHere_97 ?_
      unfold sgnT sgnV; grind
    have tw14_38 : Int32.toInt (ka 1099 12) ≠ 38 := fun z => w14_38 (Int32.toInt_inj.mp (z.trans (by decide)))
    have tw14_42 : Int32.toInt (ka 1099 12) ≠ 42 := fun z => w14_42 (Int32.toInt_inj.mp (z.trans (by decide)))
    have tw14_43 : Int32.toInt (ka 1099 12) ≠ 43 := fun z => w14_43 (Int32.toInt_inj.mp (z.trans (by decide)))
    have tw14_45 : Int32.toInt (ka 1099 12) ≠ 45 := fun z => w14_45 (Int32.toInt_inj.mp (z.trans (by decide)))
    have tw14_47 : Int32.toInt (ka 1099 12) ≠ 47 := fun z => w14_47 (Int32.toInt_inj.mp (z.trans (by decide)))
    have tw14_60 : Int32.toInt (ka 1099 12) ≠ 60 := fun z => w14_60 (Int32.toInt_inj.mp (z.trans (by decide)))
    have tw14_61 : Int32.toInt (ka 1099 12) ≠ 61 := fun z => w14_61 (Int32.toInt_inj.mp (z.trans (by decide)))
    have tw14_62 : Int32.toInt (ka 1099 12) ≠ 62 := fun z => w14_62 (Int32.toInt_inj.mp (z.trans (by decide)))
    have tw14_124 : Int32.toInt (ka 1099 12) ≠ 124 := fun z => w14_124 (Int32.toInt_inj.mp (z.trans (by decide)))
    refine lv_lookup (tgt := 122) (off := 108) hx hb dX3_signHere_14 (by decide) (by clear hM hl; generalize Int32.toInt (ka 1099 12) = zz at tw14_38 tw14_42 tw14_43 tw14_45 tw14_47 tw14_60 tw14_61 tw14_62 tw14_124 ⊢; simp [Op.lookupswitch.offset, Ne.symm tw14_38, Ne.symm tw14_42, Ne.symm tw14_43, Ne.symm tw14_45, Ne.symm tw14_47, Ne.symm tw14_60, Ne.symm tw14_61, Ne.symm tw14_62, Ne.symm tw14_124]) (by decide) ?_
    refine lv_iconst (v := 0) hx hb dX3_signHere_122 (by decide) ?_
    refine r_iretp B hr hM dX3_signHere_123 ?_
    unfold sgnT sgnV; grind
  · refine lv_iconst (v := 0) hx hb dX3_signHere_8 (by decide) ?_
    refine r_iretp B hr hM dX3_signHere_9 ?_
    unfold sgnT sgnV; grind
set_option maxHeartbeats 4000000 in
theorem ok_settle (hL : LayM th rh y0 ay) {Y0 Z0 : List Int32} (hlen0 : Y0.length + Z0.length ≤ 96) (hw0 : ka 1099 21 = nI Y0.length) (hc0 : ka 1099 18 = nI Z0.length) (hst0 : Stk (ka 1020) Y0) (hcd0 : Stk (ka 1017) Z0) (k : Int32) : Met l yX3_settle (ws_ yX3_settle cX3_settle 2 none) (RM 2 0 0) (Pc_ G [.ref y0, .int k] th rh ph ka) (Qv G th rh ph (fun ka' => But [1017, 1099] ka ka' ∧ (∀ j, j ≠ 18 → j ≠ 21 → ka' 1099 j = ka 1099 j) ∧ ka' 1099 21 = nI (setl k Y0 Z0).1.length ∧ ka' 1099 18 = nI (setl k Y0 Z0).2.length ∧ Stk (ka' 1017) (setl k Y0 Z0).2)) 0 0 (frG G) := by
  refine m_of (by decide) (Nat.le_of_ble_eq_true rfl) ?_
  intro p_ e_ s_ m_ below_ meth_ c_ B hr hnm ls hl hM
  have hx := B.1
  have hb := B.2.1
  have hM := hM
  have loop : ∀ (fu_loop : Nat) (Y : List Int32) (Z : List Int32) (kb : Ka), Y.length < fu_loop → (setl k Y Z = setl k Y0 Z0) → (Y.length + Z.length ≤ 96) → (kb 1099 21 = nI Y.length) → (kb 1099 18 = nI Z.length) → (Stk (kb 1020) Y) → (Stk (kb 1017) Z) → (∀ j, j ≠ 18 → j ≠ 21 → kb 1099 j = ka 1099 j) → (But [1017, 1099] ka kb) → ∀ (ls : Array Slot) (H : Heap) (locs : List Loc), lv_has ls 2 [(0, .ref y0), (1, .int k)] → Md G th rh ph kb H locs → W p_ l e_ (RM 2 0 0) s_ m_ ([.ref y0, .int k].toArray) below_ meth_ c_ H locs 0 0 (MQ below_ (Qv G th rh ph (fun ka' => But [1017, 1099] ka ka' ∧ (∀ j, j ≠ 18 → j ≠ 21 → ka' 1099 j = ka 1099 j) ∧ ka' 1099 21 = nI (setl k Y0 Z0).1.length ∧ ka' 1099 18 = nI (setl k Y0 Z0).2.length ∧ Stk (ka' 1017) (setl k Y0 Z0).2)) ([.ref y0, .int k].toArray) s_ 0 0 (frG G)) (F0 m_ 0 ls []) := by
    intro fu_loop
    induction fu_loop with
    | zero => intro Y Z kb hfu; exact absurd hfu (Nat.not_lt_zero _)
    | succ fu_loop ih_loop =>
      intro Y Z kb hfu_loop hset hlen hw hc hst hcd hfr hbu ls H locs hl hM
      refine lv_aload_n hx hb dX3_settle_0 rfl (lv_at hl 0 rfl) ?_
      refine r_geti B hM 21 hL.1 rfl (by decide) rfl rfl q1403 dX3_settle_1 ?_
      refine lv_if_le (tgt := 82) hx hb dX3_settle_4 (by decide) (fun c4 => ?_) (fun c4 => ?_)
      · have n4 : Y.length ≤ 0 := ntLe (by rw [hw]) rfl (by omega) (by omega) c4
        refine r_vret B hr hM dX3_settle_82 ?_
        have hres : setl k Y0 Z0 = (Y, Z) := by rw [← hset, List.length_eq_zero_iff.mp (Nat.le_zero.mp n4), setl]
        rw [hres]
        exact ⟨hbu, hfr, hw, hc, hcd⟩
      · have n4 : 0 < Y.length := ntNle (by rw [hw]) rfl (by omega) (by omega) c4
        obtain ⟨y, Y1, rfl⟩ : ∃ y Y1, Y = y :: Y1 := by
          cases Y with
          | nil => exact absurd n4 (by simp)
          | cons y Y1 => exact ⟨y, Y1, rfl⟩
        have hw1 : kb 1099 21 = nI (Y1.length + 1) := hw
        simp only [List.length_cons] at hlen hfu_loop
        refine lv_aload_n hx hb dX3_settle_7 rfl (lv_at hl 0 rfl) ?_
        refine r_getq B hM 20 hL.1 rfl (by decide) rfl rfl (hL.2 20 _ _ rfl).1 q1402 dX3_settle_8 ?_
        refine lv_aload_n hx hb dX3_settle_11 rfl (lv_at hl 0 rfl) ?_
        refine r_geti B hM 21 hL.1 rfl (by decide) rfl rfl q1403 dX3_settle_12 ?_
        refine lv_iconst (v := 1) hx hb dX3_settle_15 (by decide) ?_
        refine lv_isub hx hb dX3_settle_16 ?_
        refine r_topv (v := nI Y1.length) (by rw [hw1]; exact nI_pred _) ?_
        refine r_ild B hM Y1.length (hL.2 20 _ _ rfl).2 rfl (by omega) (by decide) dX3_settle_17 ?_
        refine r_topv (v := y) hst.1 ?_
        refine lv_bipush (v := (-11)) hx hb dX3_settle_18 (by decide) ?_
        refine lv_icmp_eq (tgt := 82) hx hb dX3_settle_20 (by decide) (fun c20 => ?_) (fun c20 => ?_)
        · refine r_vret B hr hM dX3_settle_82 ?_
          have hres : setl k Y0 Z0 = ((y :: Y1), Z) := by rw [← hset, setl, if_pos (Or.inl c20)]
          rw [hres]
          exact ⟨hbu, hfr, hw, hc, hcd⟩
        · refine lv_aload_n hx hb dX3_settle_23 rfl (lv_at hl 0 rfl) ?_
          refine r_getq B hM 20 hL.1 rfl (by decide) rfl rfl (hL.2 20 _ _ rfl).1 q1402 dX3_settle_24 ?_
          refine lv_aload_n hx hb dX3_settle_27 rfl (lv_at hl 0 rfl) ?_
          refine r_geti B hM 21 hL.1 rfl (by decide) rfl rfl q1403 dX3_settle_28 ?_
          refine lv_iconst (v := 1) hx hb dX3_settle_31 (by decide) ?_
          refine lv_isub hx hb dX3_settle_32 ?_
          refine r_topv (v := nI Y1.length) (by rw [hw1]; exact nI_pred _) ?_
          refine r_ild B hM Y1.length (hL.2 20 _ _ rfl).2 rfl (by omega) (by decide) dX3_settle_33 ?_
          refine r_topv (v := y) hst.1 ?_
          refine k_pe (v := rankT y) (r_S (As := [.int y]) (rest := []) B hM (ok_rank y) cal_X3_rank q1773 rfl hl.1 (Nat.le_of_ble_eq_true rfl) dX3_settle_34 ⟨Nat.le_of_ble_eq_true rfl, Nat.le_of_ble_eq_true rfl⟩ ⟨Nat.le_of_ble_eq_true rfl, Nat.le_of_ble_eq_true rfl⟩) hM (fun H locs hM => ?_)
          refine lv_iload_n hx hb dX3_settle_37 rfl (lv_at hl 1 rfl) ?_
          refine lv_icmp_lt (tgt := 82) hx hb dX3_settle_38 (by decide) (fun c38 => ?_) (fun c38 => ?_)
          · refine r_vret B hr hM dX3_settle_82 ?_
            have hres : setl k Y0 Z0 = ((y :: Y1), Z) := by rw [← hset, setl, if_pos (Or.inr c38)]
            rw [hres]
            exact ⟨hbu, hfr, hw, hc, hcd⟩
          · refine lv_aload_n hx hb dX3_settle_41 rfl (lv_at hl 0 rfl) ?_
            refine lv_dup hx hb dX3_settle_42 rfl ?_
            refine r_geti B hM 21 hL.1 rfl (by decide) rfl rfl q1403 dX3_settle_43 ?_
            refine lv_iconst (v := 1) hx hb dX3_settle_46 (by decide) ?_
            refine lv_isub hx hb dX3_settle_47 ?_
            refine r_topv (v := nI Y1.length) (by rw [hw1]; exact nI_pred _) ?_
            refine r_puti B hM 21 hL.1 rfl (by decide) rfl rfl q1403 dX3_settle_48 (fun ka_1 H locs eka_1 hM => ?_)
            have hB_1 : But [1017, 1099] ka ka_1 := But.trans hbu (by rw [eka_1]; exact But.up (by decide))
            refine lv_aload_n hx hb dX3_settle_51 rfl (lv_at hl 0 rfl) ?_
            refine r_getq B hM 17 hL.1 rfl (by decide) rfl rfl (hL.2 17 _ _ rfl).1 q1399 dX3_settle_52 ?_
            refine lv_aload_n hx hb dX3_settle_55 rfl (lv_at hl 0 rfl) ?_
            refine r_geti B hM 18 hL.1 rfl (by decide) rfl rfl q1400 dX3_settle_56 ?_
            refine r_topv (v := kb 1099 18) (by rw [eka_1, up2_i _ _ _ _ (by decide)]) ?_
            refine lv_aload_n hx hb dX3_settle_59 rfl (lv_at hl 0 rfl) ?_
            refine r_getq B hM 20 hL.1 rfl (by decide) rfl rfl (hL.2 20 _ _ rfl).1 q1402 dX3_settle_60 ?_
            refine lv_aload_n hx hb dX3_settle_63 rfl (lv_at hl 0 rfl) ?_
            refine r_geti B hM 21 hL.1 rfl (by decide) rfl rfl q1403 dX3_settle_64 ?_
            refine r_topv (v := nI Y1.length) (by rw [eka_1, up2_s]) ?_
            refine r_ild B hM Y1.length (hL.2 20 _ _ rfl).2 rfl (by omega) (by decide) dX3_settle_67 ?_
            refine r_topv (v := kb 1020 Y1.length) (by rw [eka_1, up2_a _ _ _ (by decide)]) ?_
            refine r_topv (v := y) hst.1 ?_
            refine r_ist B hM Z.length (hL.2 17 _ _ rfl).2 (by rw [hc]) (by omega) (by decide) dX3_settle_68 (fun ka_2 H locs eka_2 hM => ?_)
            have hB_2 : But [1017, 1099] ka ka_2 := But.trans hB_1 (by rw [eka_2]; exact But.up (by decide))
            refine lv_aload_n hx hb dX3_settle_69 rfl (lv_at hl 0 rfl) ?_
            refine lv_dup hx hb dX3_settle_70 rfl ?_
            refine r_geti B hM 18 hL.1 rfl (by decide) rfl rfl q1400 dX3_settle_71 ?_
            refine r_topv (v := kb 1099 18) (by rw [eka_2, up2_a _ _ _ (by decide), eka_1, up2_i _ _ _ _ (by decide)]) ?_
            refine lv_iconst (v := 1) hx hb dX3_settle_74 (by decide) ?_
            refine lv_iadd hx hb dX3_settle_75 ?_
            refine r_topv (v := nI (Z.length + 1)) (by rw [hc]; exact nI_1 _) ?_
            refine r_puti B hM 18 hL.1 rfl (by decide) rfl rfl q1400 dX3_settle_76 (fun ka_3 H locs eka_3 hM => ?_)
            have hB_3 : But [1017, 1099] ka ka_3 := But.trans hB_2 (by rw [eka_3]; exact But.up (by decide))
            refine lv_goto (tgt := 0) hx hb dX3_settle_79 (by decide) ?_
            exact ih_loop Y1 (y :: Z) ka_3 (by omega) (by rw [← hset, setl, if_neg (fun q => q.elim c20 c38)]) (by simp only [List.length_cons]; omega) (by rw [eka_3, up2_i _ _ _ _ (by decide), eka_2, up2_a _ _ _ (by decide), eka_1, up2_s]) (by rw [eka_3, up2_s]; rfl) (by rw [eka_3, up2_a _ _ _ (by decide), eka_2, up2_a _ _ _ (by decide), eka_1, up2_a _ _ _ (by decide)]; exact hst.2) (by rw [eka_3, up2_a _ _ _ (by decide), eka_2, up2_row, eka_1, up2_a _ _ _ (by decide)]; exact hcd.push y) (fun j h1 h2 => by rw [eka_3, up2_i _ _ _ _ h1, eka_2, up2_a _ _ _ (by decide), eka_1, up2_i _ _ _ _ h2]; exact hfr j h1 h2) hB_3 _ _ _ (lv_sub hl [0, 1] rfl) hM
  exact loop (Y0.length + 1) Y0 Z0 ka (by omega) rfl hlen0 hw0 hc0 hst0 hcd0 (fun _ _ _ => rfl) But.refl _ _ _ (lv_sub hl [0, 1] rfl) hM
set_option maxHeartbeats 4000000 in
theorem ok_notsOpen (hL : LayM th rh y0 ay) {m : Nat} (hm96 : m ≤ 96) (hm : ka 1099 21 = nI m) : Met l yX3_notsOpen (ws_ yX3_notsOpen cX3_notsOpen 3 (some .int)) (RM 1 0 0) (Pc_ G [.ref y0] th rh ph ka) (Qp G th rh ph ka (fun r => r = nI (cntI (ka 1020) m))) 0 0 (frG G) := by
  refine m_of (by decide) (Nat.le_of_ble_eq_true rfl) ?_
  intro p_ e_ s_ m_ below_ meth_ c_ B hr hnm ls hl hM
  have hx := B.1
  have hb := B.2.1
  have hM := hM
  have loop : ∀ (fu_loop : Nat) (i : Nat), m - i < fu_loop → (i ≤ m) → ∀ (ls : Array Slot) (H : Heap) (locs : List Loc), lv_has ls 3 [(0, .ref y0), (1, .int (nI (cntI (ka 1020) i))), (2, .int (nI i))] → Md G th rh ph ka H locs → W p_ l e_ (RM 1 0 0) s_ m_ ([.ref y0].toArray) below_ meth_ c_ H locs 0 0 (MQ below_ (Qp G th rh ph ka (fun r => r = nI (cntI (ka 1020) m))) ([.ref y0].toArray) s_ 0 0 (frG G)) (F0 m_ 4 ls []) := by
    intro fu_loop
    induction fu_loop with
    | zero => intro i hfu; exact absurd hfu (Nat.not_lt_zero _)
    | succ fu_loop ih_loop =>
      intro i hfu_loop hi ls H locs hl hM
      refine lv_iload_n hx hb dX3_notsOpen_4 rfl (lv_at hl 2 rfl) ?_
      refine lv_aload_n hx hb dX3_notsOpen_5 rfl (lv_at hl 0 rfl) ?_
      refine r_geti B hM 21 hL.1 rfl (by decide) rfl rfl q1403 dX3_notsOpen_6 ?_
      refine lv_icmp_ge (tgt := 37) hx hb dX3_notsOpen_9 (by decide) (fun c9 => ?_) (fun c9 => ?_)
      · have n9 : m ≤ i := ntLe (by rw [hm]) rfl (by omega) (by omega) c9
        refine lv_iload_n hx hb dX3_notsOpen_37 rfl (lv_at hl 1 rfl) ?_
        refine r_iretp B hr hM dX3_notsOpen_38 ?_
        rw [show m = i by omega]
      · have n9 : i < m := ntNle (by rw [hm]) rfl (by omega) (by omega) c9
        refine lv_iload_n hx hb dX3_notsOpen_12 rfl (lv_at hl 1 rfl) ?_
        refine lv_aload_n hx hb dX3_notsOpen_13 rfl (lv_at hl 0 rfl) ?_
        refine r_getq B hM 20 hL.1 rfl (by decide) rfl rfl (hL.2 20 _ _ rfl).1 q1402 dX3_notsOpen_14 ?_
        refine lv_iload_n hx hb dX3_notsOpen_17 rfl (lv_at hl 2 rfl) ?_
        refine r_ild B hM i (hL.2 20 _ _ rfl).2 rfl (by omega) (by decide) dX3_notsOpen_18 ?_
        refine lv_bipush (v := (-10)) hx hb dX3_notsOpen_19 (by decide) ?_
        refine lv_icmp_ne (tgt := 28) hx hb dX3_notsOpen_21 (by decide) (fun c21 => ?_) (fun c21 => ?_)
        · refine lv_iconst (v := 0) hx hb dX3_notsOpen_28 (by decide) ?_
          refine lv_iadd hx hb dX3_notsOpen_29 ?_
          refine r_topv (v := nI (cntI (ka 1020) (i + 1))) (by rw [cntI, if_neg c21]; exact Int32.add_zero _) ?_
          refine lv_istore_n (lv' := [(1, .int (nI (cntI (ka 1020) (i + 1)))), (0, .ref y0), (2, .int (nI i))]) hx hb dX3_notsOpen_30 rfl hl (by decide) rfl (fun ls hl => ?_)
          refine lv_iinc (v := nI (i + 1)) (lv' := [(2, .int (nI (i + 1))), (1, .int (nI (cntI (ka 1020) (i + 1)))), (0, .ref y0)]) hx hb dX3_notsOpen_31 hl (k := 2) rfl (nI_1 _) (by decide) rfl (fun ls hl => ?_)
          refine lv_goto (tgt := 4) hx hb dX3_notsOpen_34 (by decide) ?_
          exact ih_loop (i + 1) (by omega) (by omega) _ _ _ (lv_sub hl [2, 1, 0] rfl) hM
        · refine lv_iconst (v := 1) hx hb dX3_notsOpen_24 (by decide) ?_
          refine lv_goto (tgt := 29) hx hb dX3_notsOpen_25 (by decide) ?_
          refine lv_iadd hx hb dX3_notsOpen_29 ?_
          refine r_topv (v := nI (cntI (ka 1020) (i + 1))) (by rw [cntI, if_pos c21]; exact nI_1 _) ?_
          refine lv_istore_n (lv' := [(1, .int (nI (cntI (ka 1020) (i + 1)))), (0, .ref y0), (2, .int (nI i))]) hx hb dX3_notsOpen_30 rfl hl (by decide) rfl (fun ls hl => ?_)
          refine lv_iinc (v := nI (i + 1)) (lv' := [(2, .int (nI (i + 1))), (1, .int (nI (cntI (ka 1020) (i + 1)))), (0, .ref y0)]) hx hb dX3_notsOpen_31 hl (k := 2) rfl (nI_1 _) (by decide) rfl (fun ls hl => ?_)
          refine lv_goto (tgt := 4) hx hb dX3_notsOpen_34 (by decide) ?_
          exact ih_loop (i + 1) (by omega) (by omega) _ _ _ (lv_sub hl [2, 1, 0] rfl) hM
  refine lv_iconst (v := 0) hx hb dX3_notsOpen_0 (by decide) ?_
  refine lv_istore_n (lv' := [(1, .int 0), (0, .ref y0)]) hx hb dX3_notsOpen_1 rfl hl (by decide) rfl (fun ls hl => ?_)
  refine lv_iconst (v := 0) hx hb dX3_notsOpen_2 (by decide) ?_
  refine lv_istore_n (lv' := [(2, .int 0), (1, .int 0), (0, .ref y0)]) hx hb dX3_notsOpen_3 rfl hl (by decide) rfl (fun ls hl => ?_)
  exact loop (m + 1) 0 (by omega) (Nat.zero_le _) _ _ _ (lv_sub hl [2, 1, 0] rfl) hM
set_option maxHeartbeats 4000000 in
theorem ok_takesPart (hL : LayM th rh y0 ay) {n : Nat} (hn96 : n ≤ 96) (hn : ka 1099 8 = nI n) {x : Nat} (hxn : x ≤ n) (hx9 : ka 1099 9 = nI x) {Y Z : List Int32} (hlen : Y.length + Z.length + 1 ≤ 96) (hw : ka 1099 21 = nI Y.length) (hc : ka 1099 18 = nI Z.length) (hst : Stk (ka 1020) Y) (hcd : Stk (ka 1017) Z) : Met l yX3_takesPart (ws_ yX3_takesPart cX3_takesPart 2 (some .boolean)) (RM 4 0 0) (Pc_ G [.ref y0] th rh ph ka) (Qi G th rh ph (fun r ka' => (r = 0 ∧ ¬ isPt (ka 1099) ∧ ka' = ka) ∨ (r = 1 ∧ isPt (ka 1099) ∧ But [1017, 1099] ka ka' ∧ (∀ j, j ≠ 18 → j ≠ 19 → j ≠ 21 → ka' 1099 j = goF (ka 1007) (ka 1099) j) ∧ ka' 1099 19 = ka 1099 19 + 1 ∧ ka' 1099 21 = nI (setl 6 Y (ptV (ka 1099) :: Z)).1.length ∧ ka' 1099 18 = nI (setl 6 Y (ptV (ka 1099) :: Z)).2.length ∧ Stk (ka' 1017) (setl 6 Y (ptV (ka 1099) :: Z)).2))) 0 0 (frG G) := by
  refine m_of (by decide) (Nat.le_of_ble_eq_true rfl) ?_
  intro p_ e_ s_ m_ below_ meth_ c_ B hr hnm ls hl hM
  have hx := B.1
  have hb := B.2.1
  have hM := hM
  refine lv_aload_n hx hb dX3_takesPart_0 rfl (lv_at hl 0 rfl) ?_
  refine r_geti B hM 11 hL.1 rfl (by decide) rfl rfl q1393 dX3_takesPart_1 ?_
  refine lv_iconst (v := 1) hx hb dX3_takesPart_4 (by decide) ?_
  refine lv_icmp_ne (tgt := 36) hx hb dX3_takesPart_5 (by decide) (fun c5 => ?_) (fun c5 => ?_)
  · refine lv_iconst (v := 0) hx hb dX3_takesPart_36 (by decide) ?_
    refine lv_istore_n (lv' := [(1, .int 0), (0, .ref y0)]) hx hb dX3_takesPart_37 rfl hl (by decide) rfl (fun ls hl => ?_)
    refine lv_aload_n hx hb dX3_takesPart_38 rfl (lv_at hl 1 rfl) ?_
    refine r_geti B hM 11 hL.1 rfl (by decide) rfl rfl q1393 dX3_takesPart_39 ?_
    refine lv_iconst (v := 2) hx hb dX3_takesPart_42 (by decide) ?_
    refine lv_icmp_eq (tgt := 52) hx hb dX3_takesPart_43 (by decide) (fun c43 => ?_) (fun c43 => ?_)
    · refine lv_aload_n hx hb dX3_takesPart_52 rfl (lv_at hl 1 rfl) ?_
      refine r_getq B hM 17 hL.1 rfl (by decide) rfl rfl (hL.2 17 _ _ rfl).1 q1399 dX3_takesPart_53 ?_
      refine lv_aload_n hx hb dX3_takesPart_56 rfl (lv_at hl 1 rfl) ?_
      refine r_geti B hM 18 hL.1 rfl (by decide) rfl rfl q1400 dX3_takesPart_57 ?_
      refine lv_aload_n hx hb dX3_takesPart_60 rfl (lv_at hl 1 rfl) ?_
      refine r_geti B hM 11 hL.1 rfl (by decide) rfl rfl q1393 dX3_takesPart_61 ?_
      refine lv_iconst (v := 2) hx hb dX3_takesPart_64 (by decide) ?_
      refine lv_icmp_ne (tgt := 75) hx hb dX3_takesPart_65 (by decide) (fun cZ => absurd c43 cZ) (fun c65 => ?_)
      refine lv_aload_n hx hb dX3_takesPart_68 rfl (lv_at hl 1 rfl) ?_
      refine r_geti B hM 12 hL.1 rfl (by decide) rfl rfl q1394 dX3_takesPart_69 ?_
      refine lv_goto (tgt := 87) hx hb dX3_takesPart_72 (by decide) ?_
      refine r_topv (v := ptV (ka 1099)) (by unfold ptV; rw [if_pos c43]) ?_
      refine r_ist B hM Z.length (hL.2 17 _ _ rfl).2 (by rw [hc]) (by omega) (by decide) dX3_takesPart_87 (fun ka_1 H locs eka_1 hM => ?_)
      have hB_1 : But [1017, 1099] ka ka_1 := But.trans But.refl (by rw [eka_1]; exact But.up (by decide))
      refine lv_aload_n hx hb dX3_takesPart_88 rfl (lv_at hl 1 rfl) ?_
      refine lv_dup hx hb dX3_takesPart_89 rfl ?_
      refine r_geti B hM 18 hL.1 rfl (by decide) rfl rfl q1400 dX3_takesPart_90 ?_
      refine r_topv (v := ka 1099 18) (by rw [eka_1, up2_a _ _ _ (by decide)]) ?_
      refine lv_iconst (v := 1) hx hb dX3_takesPart_93 (by decide) ?_
      refine lv_iadd hx hb dX3_takesPart_94 ?_
      refine r_topv (v := nI (Z.length + 1)) (by rw [hc]; exact nI_1 _) ?_
      refine r_puti B hM 18 hL.1 rfl (by decide) rfl rfl q1400 dX3_takesPart_95 (fun ka_2 H locs eka_2 hM => ?_)
      have hB_2 : But [1017, 1099] ka ka_2 := But.trans hB_1 (by rw [eka_2]; exact But.up (by decide))
      refine lv_aload_n hx hb dX3_takesPart_98 rfl (lv_at hl 1 rfl) ?_
      refine lv_dup hx hb dX3_takesPart_99 rfl ?_
      refine r_geti B hM 19 hL.1 rfl (by decide) rfl rfl q1401 dX3_takesPart_100 ?_
      refine r_topv (v := ka 1099 19) (by rw [eka_2, up2_i _ _ _ _ (by decide), eka_1, up2_a _ _ _ (by decide)]) ?_
      refine lv_iconst (v := 1) hx hb dX3_takesPart_103 (by decide) ?_
      refine lv_iadd hx hb dX3_takesPart_104 ?_
      refine r_puti B hM 19 hL.1 rfl (by decide) rfl rfl q1401 dX3_takesPart_105 (fun ka_3 H locs eka_3 hM => ?_)
      have hB_3 : But [1017, 1099] ka ka_3 := But.trans hB_2 (by rw [eka_3]; exact But.up (by decide))
      refine lv_aload_n hx hb dX3_takesPart_108 rfl (lv_at hl 1 rfl) ?_
      refine lv_bipush (v := 6) hx hb dX3_takesPart_109 (by decide) ?_
      refine k_v (r_V (As := [.int 6]) (rest := []) B hM hL.1 rfl rfl (ok_settle hL (Y0 := Y) (Z0 := ptV (ka 1099) :: Z) (by simp only [List.length_cons]; omega) (by rw [eka_3, up2_i _ _ _ _ (by decide), eka_2, up2_i _ _ _ _ (by decide), eka_1, up2_a _ _ _ (by decide)]; exact hw) (by rw [eka_3, up2_i _ _ _ _ (by decide), eka_2, up2_s]; rfl) (by rw [eka_3, up2_a _ _ _ (by decide), eka_2, up2_a _ _ _ (by decide), eka_1, up2_a _ _ _ (by decide)]; exact hst) (by rw [eka_3, up2_a _ _ _ (by decide), eka_2, up2_a _ _ _ (by decide), eka_1, up2_row]; exact hcd.push _) 6) cal_X3_settle q1769 rfl hl.1 (Nat.le_of_ble_eq_true rfl) dX3_takesPart_111 ⟨Nat.le_of_ble_eq_true rfl, Nat.le_of_ble_eq_true rfl⟩ ⟨Nat.le_of_ble_eq_true rfl, Nat.le_of_ble_eq_true rfl⟩) hM (fun ka_4 H locs p_5 hM => ?_)
      obtain ⟨hq, hq2, hq3, hq4, hq5⟩ := p_5
      have hf4 : ∀ j, j ≠ 18 → j ≠ 19 → j ≠ 21 → ka_4 1099 j = ka 1099 j := fun j h1 h2 h3 => by rw [hq2 j h1 h3, eka_3, up2_i _ _ _ _ h2, eka_2, up2_i _ _ _ _ h1, eka_1, up2_a _ _ _ (by decide)]
      have h19 : ka_4 1099 19 = ka 1099 19 + 1 := by rw [hq2 19 (by decide) (by decide), eka_3, up2_s]
      have hB_4 : But [1017, 1099] ka ka_4 := But.trans hB_3 (But.mono hq (by decide))
      refine lv_aload_n hx hb dX3_takesPart_114 rfl (lv_at hl 1 rfl) ?_
      refine k_v (r_V (As := []) (rest := []) B hM hL.1 rfl rfl (ok_go hL hn96 (n := n) ((hf4 8 (by decide) (by decide) (by decide)).trans hn) (x := x) hxn ((hf4 9 (by decide) (by decide) (by decide)).trans hx9)) cal_X3_go q1741 rfl hl.1 (Nat.le_of_ble_eq_true rfl) dX3_takesPart_115 ⟨Nat.le_of_ble_eq_true rfl, Nat.le_of_ble_eq_true rfl⟩ ⟨Nat.le_of_ble_eq_true rfl, Nat.le_of_ble_eq_true rfl⟩) hM (fun ka_6 H locs p_7 hM => ?_)
      have ego := p_7
      rw [hB_4 1007 (by decide)] at ego
      have hq : But [1099] ka_4 ka_6 := by rw [ego]; exact fun a ha => up1_a _ _ (fun z => ha (List.mem_singleton.mpr z))
      have hB_6 : But [1017, 1099] ka ka_6 := But.trans hB_4 (But.mono hq (by decide))
      refine lv_iconst (v := 1) hx hb dX3_takesPart_118 (by decide) ?_
      refine r_zret B hr hM dX3_takesPart_119 (Or.inr rfl) ?_
      refine Or.inr ⟨rfl, Or.inl c43, hB_6, fun j h1 h2 h3 => ?_, ?_, ?_, ?_, ?_⟩
      · rw [ego, up1_s]; exact goF_congr (hf4 8 (by decide) (by decide) (by decide)) (hf4 9 (by decide) (by decide) (by decide)) (hf4 13 (by decide) (by decide) (by decide)) (hf4 j h1 h2 h3)
      · rw [ego, up1_s, goF_keep (by omega)]; exact h19
      · rw [ego, up1_s, goF_keep (by omega)]; exact hq3
      · rw [ego, up1_s, goF_keep (by omega)]; exact hq4
      · rw [ego, up1_a _ _ (by decide)]; exact hq5
    · refine lv_iload_n hx hb dX3_takesPart_46 rfl (lv_at hl 0 rfl) ?_
      refine lv_if_ne (tgt := 52) hx hb dX3_takesPart_47 (by decide) (fun cZ => absurd (by decide) cZ) (fun c47 => ?_)
      refine lv_iconst (v := 0) hx hb dX3_takesPart_50 (by decide) ?_
      refine r_zret B hr hM dX3_takesPart_51 (Or.inl rfl) ?_
      exact Or.inl ⟨rfl, fun q => q.elim c43 (fun q => c5 q.1), rfl⟩
  · refine lv_aload_n hx hb dX3_takesPart_8 rfl (lv_at hl 0 rfl) ?_
    refine r_geti B hM 9 hL.1 rfl (by decide) rfl rfl q1391 dX3_takesPart_9 ?_
    refine lv_aload_n hx hb dX3_takesPart_12 rfl (lv_at hl 0 rfl) ?_
    refine r_geti B hM 10 hL.1 rfl (by decide) rfl rfl q1392 dX3_takesPart_13 ?_
    refine lv_isub hx hb dX3_takesPart_16 ?_
    refine lv_iconst (v := 1) hx hb dX3_takesPart_17 (by decide) ?_
    refine lv_icmp_ne (tgt := 36) hx hb dX3_takesPart_18 (by decide) (fun c18 => ?_) (fun c18 => ?_)
    · refine lv_iconst (v := 0) hx hb dX3_takesPart_36 (by decide) ?_
      refine lv_istore_n (lv' := [(1, .int 0), (0, .ref y0)]) hx hb dX3_takesPart_37 rfl hl (by decide) rfl (fun ls hl => ?_)
      refine lv_aload_n hx hb dX3_takesPart_38 rfl (lv_at hl 1 rfl) ?_
      refine r_geti B hM 11 hL.1 rfl (by decide) rfl rfl q1393 dX3_takesPart_39 ?_
      refine lv_iconst (v := 2) hx hb dX3_takesPart_42 (by decide) ?_
      refine lv_icmp_eq (tgt := 52) hx hb dX3_takesPart_43 (by decide) (fun cZ => absurd cZ (fun z => absurd (c5.symm.trans z) (by decide))) (fun c43 => ?_)
      refine lv_iload_n hx hb dX3_takesPart_46 rfl (lv_at hl 0 rfl) ?_
      refine lv_if_ne (tgt := 52) hx hb dX3_takesPart_47 (by decide) (fun cZ => absurd (by decide) cZ) (fun c47 => ?_)
      refine lv_iconst (v := 0) hx hb dX3_takesPart_50 (by decide) ?_
      refine r_zret B hr hM dX3_takesPart_51 (Or.inl rfl) ?_
      exact Or.inl ⟨rfl, fun q => q.elim c43 (fun q => c18 q.2.1), rfl⟩
    · refine lv_aload_n hx hb dX3_takesPart_21 rfl (lv_at hl 0 rfl) ?_
      refine lv_aload_n hx hb dX3_takesPart_22 rfl (lv_at hl 0 rfl) ?_
      refine r_geti B hM 12 hL.1 rfl (by decide) rfl rfl q1394 dX3_takesPart_23 ?_
      refine k_pe (v := nameT (ka 1099 14) (ka 1099 12)) (r_V (As := [.int (ka 1099 12)]) (rest := []) B hM hL.1 rfl rfl (ok_nameOf hL (ka 1099 12)) cal_X3_nameOf q1765 rfl hl.1 (Nat.le_of_ble_eq_true rfl) dX3_takesPart_26 ⟨Nat.le_of_ble_eq_true rfl, Nat.le_of_ble_eq_true rfl⟩ ⟨Nat.le_of_ble_eq_true rfl, Nat.le_of_ble_eq_true rfl⟩) hM (fun H locs hM => ?_)
      refine lv_if_lt (tgt := 36) hx hb dX3_takesPart_29 (by decide) (fun c29 => ?_) (fun c29 => ?_)
      · refine lv_iconst (v := 0) hx hb dX3_takesPart_36 (by decide) ?_
        refine lv_istore_n (lv' := [(1, .int 0), (0, .ref y0)]) hx hb dX3_takesPart_37 rfl hl (by decide) rfl (fun ls hl => ?_)
        refine lv_aload_n hx hb dX3_takesPart_38 rfl (lv_at hl 1 rfl) ?_
        refine r_geti B hM 11 hL.1 rfl (by decide) rfl rfl q1393 dX3_takesPart_39 ?_
        refine lv_iconst (v := 2) hx hb dX3_takesPart_42 (by decide) ?_
        refine lv_icmp_eq (tgt := 52) hx hb dX3_takesPart_43 (by decide) (fun cZ => absurd cZ (fun z => absurd (c5.symm.trans z) (by decide))) (fun c43 => ?_)
        refine lv_iload_n hx hb dX3_takesPart_46 rfl (lv_at hl 0 rfl) ?_
        refine lv_if_ne (tgt := 52) hx hb dX3_takesPart_47 (by decide) (fun cZ => absurd (by decide) cZ) (fun c47 => ?_)
        refine lv_iconst (v := 0) hx hb dX3_takesPart_50 (by decide) ?_
        refine r_zret B hr hM dX3_takesPart_51 (Or.inl rfl) ?_
        exact Or.inl ⟨rfl, fun q => q.elim c43 (fun q => i_nlt.mpr q.2.2 c29), rfl⟩
      · refine lv_iconst (v := 1) hx hb dX3_takesPart_32 (by decide) ?_
        refine lv_goto (tgt := 37) hx hb dX3_takesPart_33 (by decide) ?_
        refine lv_istore_n (lv' := [(1, .int 1), (0, .ref y0)]) hx hb dX3_takesPart_37 rfl hl (by decide) rfl (fun ls hl => ?_)
        refine lv_aload_n hx hb dX3_takesPart_38 rfl (lv_at hl 1 rfl) ?_
        refine r_geti B hM 11 hL.1 rfl (by decide) rfl rfl q1393 dX3_takesPart_39 ?_
        refine lv_iconst (v := 2) hx hb dX3_takesPart_42 (by decide) ?_
        refine lv_icmp_eq (tgt := 52) hx hb dX3_takesPart_43 (by decide) (fun cZ => absurd cZ (fun z => absurd (c5.symm.trans z) (by decide))) (fun c43 => ?_)
        refine lv_iload_n hx hb dX3_takesPart_46 rfl (lv_at hl 0 rfl) ?_
        refine lv_if_ne (tgt := 52) hx hb dX3_takesPart_47 (by decide) (fun c47 => ?_) (fun cZ => absurd cZ (by decide))
        refine lv_aload_n hx hb dX3_takesPart_52 rfl (lv_at hl 1 rfl) ?_
        refine r_getq B hM 17 hL.1 rfl (by decide) rfl rfl (hL.2 17 _ _ rfl).1 q1399 dX3_takesPart_53 ?_
        refine lv_aload_n hx hb dX3_takesPart_56 rfl (lv_at hl 1 rfl) ?_
        refine r_geti B hM 18 hL.1 rfl (by decide) rfl rfl q1400 dX3_takesPart_57 ?_
        refine lv_aload_n hx hb dX3_takesPart_60 rfl (lv_at hl 1 rfl) ?_
        refine r_geti B hM 11 hL.1 rfl (by decide) rfl rfl q1393 dX3_takesPart_61 ?_
        refine lv_iconst (v := 2) hx hb dX3_takesPart_64 (by decide) ?_
        refine lv_icmp_ne (tgt := 75) hx hb dX3_takesPart_65 (by decide) (fun c65 => ?_) (fun cZ => absurd cZ c43)
        refine lv_sipush (v := 10000) hx hb dX3_takesPart_75 (by decide) ?_
        refine lv_aload_n hx hb dX3_takesPart_78 rfl (lv_at hl 1 rfl) ?_
        refine lv_aload_n hx hb dX3_takesPart_79 rfl (lv_at hl 1 rfl) ?_
        refine r_geti B hM 12 hL.1 rfl (by decide) rfl rfl q1394 dX3_takesPart_80 ?_
        refine k_pe (v := nameT (ka 1099 14) (ka 1099 12)) (r_V (As := [.int (ka 1099 12)]) (rest := [.int 10000, .int (ka 1099 18), .ref (ay 17)]) B hM hL.1 rfl rfl (ok_nameOf hL (ka 1099 12)) cal_X3_nameOf q1765 rfl hl.1 (Nat.le_of_ble_eq_true rfl) dX3_takesPart_83 ⟨Nat.le_of_ble_eq_true rfl, Nat.le_of_ble_eq_true rfl⟩ ⟨Nat.le_of_ble_eq_true rfl, Nat.le_of_ble_eq_true rfl⟩) hM (fun H locs hM => ?_)
        refine lv_iadd hx hb dX3_takesPart_86 ?_
        refine r_topv (v := ptV (ka 1099)) (by unfold ptV; rw [if_neg c43]) ?_
        refine r_ist B hM Z.length (hL.2 17 _ _ rfl).2 (by rw [hc]) (by omega) (by decide) dX3_takesPart_87 (fun ka_8 H locs eka_8 hM => ?_)
        have hB_8 : But [1017, 1099] ka ka_8 := But.trans But.refl (by rw [eka_8]; exact But.up (by decide))
        refine lv_aload_n hx hb dX3_takesPart_88 rfl (lv_at hl 1 rfl) ?_
        refine lv_dup hx hb dX3_takesPart_89 rfl ?_
        refine r_geti B hM 18 hL.1 rfl (by decide) rfl rfl q1400 dX3_takesPart_90 ?_
        refine r_topv (v := ka 1099 18) (by rw [eka_8, up2_a _ _ _ (by decide)]) ?_
        refine lv_iconst (v := 1) hx hb dX3_takesPart_93 (by decide) ?_
        refine lv_iadd hx hb dX3_takesPart_94 ?_
        refine r_topv (v := nI (Z.length + 1)) (by rw [hc]; exact nI_1 _) ?_
        refine r_puti B hM 18 hL.1 rfl (by decide) rfl rfl q1400 dX3_takesPart_95 (fun ka_9 H locs eka_9 hM => ?_)
        have hB_9 : But [1017, 1099] ka ka_9 := But.trans hB_8 (by rw [eka_9]; exact But.up (by decide))
        refine lv_aload_n hx hb dX3_takesPart_98 rfl (lv_at hl 1 rfl) ?_
        refine lv_dup hx hb dX3_takesPart_99 rfl ?_
        refine r_geti B hM 19 hL.1 rfl (by decide) rfl rfl q1401 dX3_takesPart_100 ?_
        refine r_topv (v := ka 1099 19) (by rw [eka_9, up2_i _ _ _ _ (by decide), eka_8, up2_a _ _ _ (by decide)]) ?_
        refine lv_iconst (v := 1) hx hb dX3_takesPart_103 (by decide) ?_
        refine lv_iadd hx hb dX3_takesPart_104 ?_
        refine r_puti B hM 19 hL.1 rfl (by decide) rfl rfl q1401 dX3_takesPart_105 (fun ka_10 H locs eka_10 hM => ?_)
        have hB_10 : But [1017, 1099] ka ka_10 := But.trans hB_9 (by rw [eka_10]; exact But.up (by decide))
        refine lv_aload_n hx hb dX3_takesPart_108 rfl (lv_at hl 1 rfl) ?_
        refine lv_bipush (v := 6) hx hb dX3_takesPart_109 (by decide) ?_
        refine k_v (r_V (As := [.int 6]) (rest := []) B hM hL.1 rfl rfl (ok_settle hL (Y0 := Y) (Z0 := ptV (ka 1099) :: Z) (by simp only [List.length_cons]; omega) (by rw [eka_10, up2_i _ _ _ _ (by decide), eka_9, up2_i _ _ _ _ (by decide), eka_8, up2_a _ _ _ (by decide)]; exact hw) (by rw [eka_10, up2_i _ _ _ _ (by decide), eka_9, up2_s]; rfl) (by rw [eka_10, up2_a _ _ _ (by decide), eka_9, up2_a _ _ _ (by decide), eka_8, up2_a _ _ _ (by decide)]; exact hst) (by rw [eka_10, up2_a _ _ _ (by decide), eka_9, up2_a _ _ _ (by decide), eka_8, up2_row]; exact hcd.push _) 6) cal_X3_settle q1769 rfl hl.1 (Nat.le_of_ble_eq_true rfl) dX3_takesPart_111 ⟨Nat.le_of_ble_eq_true rfl, Nat.le_of_ble_eq_true rfl⟩ ⟨Nat.le_of_ble_eq_true rfl, Nat.le_of_ble_eq_true rfl⟩) hM (fun ka_11 H locs p_12 hM => ?_)
        obtain ⟨hq, hq2, hq3, hq4, hq5⟩ := p_12
        have hf4 : ∀ j, j ≠ 18 → j ≠ 19 → j ≠ 21 → ka_11 1099 j = ka 1099 j := fun j h1 h2 h3 => by rw [hq2 j h1 h3, eka_10, up2_i _ _ _ _ h2, eka_9, up2_i _ _ _ _ h1, eka_8, up2_a _ _ _ (by decide)]
        have h19 : ka_11 1099 19 = ka 1099 19 + 1 := by rw [hq2 19 (by decide) (by decide), eka_10, up2_s]
        have hB_11 : But [1017, 1099] ka ka_11 := But.trans hB_10 (But.mono hq (by decide))
        refine lv_aload_n hx hb dX3_takesPart_114 rfl (lv_at hl 1 rfl) ?_
        refine k_v (r_V (As := []) (rest := []) B hM hL.1 rfl rfl (ok_go hL hn96 (n := n) ((hf4 8 (by decide) (by decide) (by decide)).trans hn) (x := x) hxn ((hf4 9 (by decide) (by decide) (by decide)).trans hx9)) cal_X3_go q1741 rfl hl.1 (Nat.le_of_ble_eq_true rfl) dX3_takesPart_115 ⟨Nat.le_of_ble_eq_true rfl, Nat.le_of_ble_eq_true rfl⟩ ⟨Nat.le_of_ble_eq_true rfl, Nat.le_of_ble_eq_true rfl⟩) hM (fun ka_13 H locs p_14 hM => ?_)
        have ego := p_14
        rw [hB_11 1007 (by decide)] at ego
        have hq : But [1099] ka_11 ka_13 := by rw [ego]; exact fun a ha => up1_a _ _ (fun z => ha (List.mem_singleton.mpr z))
        have hB_13 : But [1017, 1099] ka ka_13 := But.trans hB_11 (But.mono hq (by decide))
        refine lv_iconst (v := 1) hx hb dX3_takesPart_118 (by decide) ?_
        refine r_zret B hr hM dX3_takesPart_119 (Or.inr rfl) ?_
        refine Or.inr ⟨rfl, Or.inr ⟨c5, c18, i_nlt.mp c29⟩, hB_13, fun j h1 h2 h3 => ?_, ?_, ?_, ?_, ?_⟩
        · rw [ego, up1_s]; exact goF_congr (hf4 8 (by decide) (by decide) (by decide)) (hf4 9 (by decide) (by decide) (by decide)) (hf4 13 (by decide) (by decide) (by decide)) (hf4 j h1 h2 h3)
        · rw [ego, up1_s, goF_keep (by omega)]; exact h19
        · rw [ego, up1_s, goF_keep (by omega)]; exact hq3
        · rw [ego, up1_s, goF_keep (by omega)]; exact hq4
        · rw [ego, up1_a _ _ (by decide)]; exact hq5
end
