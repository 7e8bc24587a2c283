/-! the model: the calls, cellars and pipes -/
set_option maxRecDepth 100000
section
variable {l : Launch} {G : GG} {th : Th} {rh : Rh} {ph : Ph} {ka : Ka} {y0 : Nat} {ay : Nat → Nat}
set_option maxHeartbeats 4000000 in
theorem ok_cellar (hL : LayM th rh y0 ay) (hR : Rok (ka 1000)) (kd fl lp : Int32) : Met l yX3_cellar (ws_ yX3_cellar cX3_cellar 4 (some .int)) (RM 2 0 0) (Pc_ G [.ref y0, .int kd, .int fl, .int lp] th rh ph ka) (Qi G th rh ph (fun r ka' => r = A_cellar (sg ka) kd fl lp ∧ Rel (S_cellar (sg ka) kd fl lp) (sg ka'))) 0 0 (frG G) := by
  refine m_of (by decide) (Nat.le_of_ble_eq_true rfl) ?_
  intro p_ e_ s_ m_ below_ meth_ c_ B hr hnm ls hl hM
  have hx := B.1
  have hb := B.2.1
  have hM := hM
  have h8 := hR.1.2
  have h13 := hR.2.1.2
  have h14 := hR.2.2.1.2
  refine lv_iload_n hx hb dX3_cellar_0 rfl (lv_at hl 1 rfl) ?_
  refine lv_iconst (v := 0) hx hb dX3_cellar_1 (by decide) ?_
  refine lv_iconst (v := 5) hx hb dX3_cellar_2 (by decide) ?_
  refine k_pb (r_S (As := [.int kd, .int 0, .int 5]) (rest := []) B hM (ok_in kd 0 5) cal_X3_in q1493 rfl hl.1 (Nat.le_of_ble_eq_true rfl) dX3_cellar_3 ⟨Nat.le_of_ble_eq_true rfl, Nat.le_of_ble_eq_true rfl⟩ ⟨Nat.le_of_ble_eq_true rfl, Nat.le_of_ble_eq_true rfl⟩) hM (fun H locs b3 hM => ?_) (fun H locs b3 hM => ?_)
  · refine lv_if_eq (tgt := 29) hx hb dX3_cellar_6 (by decide) (fun cZ => absurd cZ (by decide)) (fun c6 => ?_)
    refine lv_iload_n hx hb dX3_cellar_9 rfl (lv_at hl 2 rfl) ?_
    refine lv_iconst (v := 0) hx hb dX3_cellar_10 (by decide) ?_
    refine lv_bipush (v := 99) hx hb dX3_cellar_11 (by decide) ?_
    refine k_pb (r_S (As := [.int fl, .int 0, .int 99]) (rest := []) B hM (ok_in fl 0 99) cal_X3_in q1493 rfl hl.1 (Nat.le_of_ble_eq_true rfl) dX3_cellar_13 ⟨Nat.le_of_ble_eq_true rfl, Nat.le_of_ble_eq_true rfl⟩ ⟨Nat.le_of_ble_eq_true rfl, Nat.le_of_ble_eq_true rfl⟩) hM (fun H locs b13 hM => ?_) (fun H locs b13 hM => ?_)
    · refine lv_if_eq (tgt := 29) hx hb dX3_cellar_16 (by decide) (fun cZ => absurd cZ (by decide)) (fun c16 => ?_)
      refine lv_iload_n hx hb dX3_cellar_19 rfl (lv_at hl 3 rfl) ?_
      refine lv_iconst (v := 1) hx hb dX3_cellar_20 (by decide) ?_
      refine lv_bipush (v := 99) hx hb dX3_cellar_21 (by decide) ?_
      refine k_pb (r_S (As := [.int lp, .int 1, .int 99]) (rest := []) B hM (ok_in lp 1 99) cal_X3_in q1493 rfl hl.1 (Nat.le_of_ble_eq_true rfl) dX3_cellar_23 ⟨Nat.le_of_ble_eq_true rfl, Nat.le_of_ble_eq_true rfl⟩ ⟨Nat.le_of_ble_eq_true rfl, Nat.le_of_ble_eq_true rfl⟩) hM (fun H locs b23 hM => ?_) (fun H locs b23 hM => ?_)
      · refine lv_if_ne (tgt := 32) hx hb dX3_cellar_26 (by decide) (fun c26 => ?_) (fun cZ => absurd cZ (by decide))
        refine lv_aload_n hx hb dX3_cellar_32 rfl (lv_at hl 0 rfl) ?_
        refine r_getq B hM 0 hL.1 rfl (by decide) rfl rfl (hL.2 0 _ _ rfl).1 q1382 dX3_cellar_33 ?_
        refine lv_iconst (v := 1) hx hb dX3_cellar_36 (by decide) ?_
        refine r_ild B hM 1 (hL.2 0 _ _ rfl).2 rfl (by decide) (by decide) dX3_cellar_37 ?_
        refine lv_bipush (v := 8) hx hb dX3_cellar_38 (by decide) ?_
        refine lv_icmp_ne (tgt := 48) hx hb dX3_cellar_40 (by decide) (fun c40 => ?_) (fun c40 => ?_)
        · have n40 : nC (ka 1000) ≠ 8 := ntNe (by rw [hR.1.1]) rfl (by omega) (by omega) c40
          refine lv_aload_n hx hb dX3_cellar_48 rfl (lv_at hl 0 rfl) ?_
          refine lv_iload_n hx hb dX3_cellar_49 rfl (lv_at hl 1 rfl) ?_
          refine lv_iload_n hx hb dX3_cellar_50 rfl (lv_at hl 2 rfl) ?_
          refine lv_iload_n hx hb dX3_cellar_51 rfl (lv_at hl 3 rfl) ?_
          refine k_i (r_V (As := [.int kd, .int fl, .int lp]) (rest := []) B hM hL.1 rfl rfl (ok_comes hL hR (by omega) kd fl lp) cal_X3_comes q1498 rfl hl.1 (Nat.le_of_ble_eq_true rfl) dX3_cellar_52 ⟨Nat.le_of_ble_eq_true rfl, Nat.le_of_ble_eq_true rfl⟩ ⟨Nat.le_of_ble_eq_true rfl, Nat.le_of_ble_eq_true rfl⟩) hM (fun r_1 ka_2 H locs p_3 hM => ?_)
          obtain ⟨rfl, ec⟩ := p_3
          refine r_iret B hr hM dX3_cellar_55 ?_
          have hg : ¬ badC kd fl lp := by grind
          constructor
          · have h1 := hR.1.1; simp only [A_cellar, sg0]; grind
          · refine Rel.of ?_
            rw [ec, S_cellar, if_neg hg, if_neg (by exact c40)]; exact (sg_up1 ka 0 _).symm
        · have n40 : nC (ka 1000) = 8 := ntEq (by rw [hR.1.1]) rfl (by omega) (by omega) c40
          refine lv_ldc hx hb B.2.2.2.1 (B.ts _ q1497) dX3_cellar_43 ?_
          refine lv_goto (tgt := 55) hx hb dX3_cellar_45 (by decide) ?_
          refine r_iret B hr hM dX3_cellar_55 ?_
          constructor
          · simp only [A_cellar, sg0, sg1, sg7, sg25, sg26, sg27, sg28, sg29, sg30, sg31, sg33, sg99] <;> grind
          · refine Rel.of ?_; simp only [S_cellar, sg0, sg1, sg7, sg25, sg26, sg27, sg28, sg29, sg30, sg31, sg33, sg99] <;> grind
      · refine lv_if_ne (tgt := 32) hx hb dX3_cellar_26 (by decide) (fun cZ => absurd (by decide) cZ) (fun c26 => ?_)
        refine lv_ldc hx hb B.2.2.2.1 (B.ts _ q1496) dX3_cellar_29 ?_
        refine r_iret B hr hM dX3_cellar_31 ?_
        constructor
        · simp only [A_cellar, sg0, sg1, sg7, sg25, sg26, sg27, sg28, sg29, sg30, sg31, sg33, sg99] <;> grind
        · refine Rel.of ?_; simp only [S_cellar, sg0, sg1, sg7, sg25, sg26, sg27, sg28, sg29, sg30, sg31, sg33, sg99] <;> grind
    · refine lv_if_eq (tgt := 29) hx hb dX3_cellar_16 (by decide) (fun c16 => ?_) (fun cZ => absurd (by decide) cZ)
      refine lv_ldc hx hb B.2.2.2.1 (B.ts _ q1496) dX3_cellar_29 ?_
      refine r_iret B hr hM dX3_cellar_31 ?_
      constructor
      · simp only [A_cellar, sg0, sg1, sg7, sg25, sg26, sg27, sg28, sg29, sg30, sg31, sg33, sg99] <;> grind
      · refine Rel.of ?_; simp only [S_cellar, sg0, sg1, sg7, sg25, sg26, sg27, sg28, sg29, sg30, sg31, sg33, sg99] <;> grind
  · refine lv_if_eq (tgt := 29) hx hb dX3_cellar_6 (by decide) (fun c6 => ?_) (fun cZ => absurd (by decide) cZ)
    refine lv_ldc hx hb B.2.2.2.1 (B.ts _ q1496) dX3_cellar_29 ?_
    refine r_iret B hr hM dX3_cellar_31 ?_
    constructor
    · simp only [A_cellar, sg0, sg1, sg7, sg25, sg26, sg27, sg28, sg29, sg30, sg31, sg33, sg99] <;> grind
    · refine Rel.of ?_; simp only [S_cellar, sg0, sg1, sg7, sg25, sg26, sg27, sg28, sg29, sg30, sg31, sg33, sg99] <;> grind
set_option maxHeartbeats 4000000 in
theorem ok_told (hL : LayM th rh y0 ay) (hR : Rok (ka 1000)) (c w : Int32) : Met l yX3_told (ws_ yX3_told cX3_told 3 (some .int)) (RM 5 0 0) (Pc_ G [.ref y0, .int c, .int w] th rh ph ka) (Qi G th rh ph (fun r ka' => r = A_told (sg ka) c w ∧ Rel (sg ka) (sg ka'))) 0 0 (frG G) := by
  refine m_of (by decide) (Nat.le_of_ble_eq_true rfl) ?_
  intro p_ e_ s_ m_ below_ meth_ c_ B hr hnm ls hl hM
  have hx := B.1
  have hb := B.2.1
  have hM := hM
  have h8 := hR.1.2
  have h13 := hR.2.1.2
  have h14 := hR.2.2.1.2
  refine lv_aload_n hx hb dX3_told_0 rfl (lv_at hl 0 rfl) ?_
  refine lv_iload_n hx hb dX3_told_1 rfl (lv_at hl 1 rfl) ?_
  refine k_pb (r_V (As := [.int c]) (rest := []) B hM hL.1 rfl rfl (ok_isCellar hL hR c) cal_X3_isCellar q1506 rfl hl.1 (Nat.le_of_ble_eq_true rfl) dX3_told_2 ⟨Nat.le_of_ble_eq_true rfl, Nat.le_of_ble_eq_true rfl⟩ ⟨Nat.le_of_ble_eq_true rfl, Nat.le_of_ble_eq_true rfl⟩) hM (fun H locs b2 hM => ?_) (fun H locs b2 hM => ?_)
  · obtain ⟨kc, hkc, rfl⟩ := b2
    have hinkc : inC (nI kc) (nC (ka 1000)) := (inC_iff (by omega)).mpr ⟨kc, hkc, rfl⟩
    have hclkc : cl (nI kc) = kc := cl_nI (by omega)
    refine lv_if_ne (tgt := 11) hx hb dX3_told_5 (by decide) (fun c5 => ?_) (fun cZ => absurd cZ (by decide))
    refine lv_iload_n hx hb dX3_told_11 rfl (lv_at hl 2 rfl) ?_
    by_cases w12_0 : w = 0
    · refine lv_tableIn (tgt := 72) (off := 60) hx hb dX3_told_12 (by rw [w12_0]; decide) (by rw [w12_0]; decide) (by rw [w12_0]; rfl) (by decide) ?_
      subst w12_0
      refine lv_aload_n hx hb dX3_told_72 rfl (lv_at hl 0 rfl) ?_
      refine lv_iload_n hx hb dX3_told_73 rfl (lv_at hl 1 rfl) ?_
      refine lv_iload_n hx hb dX3_told_74 rfl (lv_at hl 2 rfl) ?_
      refine k_pe (v := ka 1000 (7 + 6 * kc + 0)) (r_V (As := [.int (nI kc), .int 0]) (rest := []) B hM hL.1 rfl rfl (ok_of hL (c := kc) (w := 0) (by omega) (by omega)) cal_X3_of q1510 rfl hl.1 (Nat.le_of_ble_eq_true rfl) dX3_told_75 ⟨Nat.le_of_ble_eq_true rfl, Nat.le_of_ble_eq_true rfl⟩ ⟨Nat.le_of_ble_eq_true rfl, Nat.le_of_ble_eq_true rfl⟩) hM (fun H locs hM => ?_)
      refine r_iret B hr hM dX3_told_78 ?_
      constructor
      · simp only [A_told, sg0, sg1, sg7, sg25, sg26, sg27, sg28, sg29, sg30, sg31, sg33, sg99, hclkc] <;> grind
      · exact Rel.refl
    by_cases w12_1 : w = 1
    · refine lv_tableIn (tgt := 72) (off := 60) hx hb dX3_told_12 (by rw [w12_1]; decide) (by rw [w12_1]; decide) (by rw [w12_1]; rfl) (by decide) ?_
      subst w12_1
      refine lv_aload_n hx hb dX3_told_72 rfl (lv_at hl 0 rfl) ?_
      refine lv_iload_n hx hb dX3_told_73 rfl (lv_at hl 1 rfl) ?_
      refine lv_iload_n hx hb dX3_told_74 rfl (lv_at hl 2 rfl) ?_
      refine k_pe (v := ka 1000 (7 + 6 * kc + 1)) (r_V (As := [.int (nI kc), .int 1]) (rest := []) B hM hL.1 rfl rfl (ok_of hL (c := kc) (w := 1) (by omega) (by omega)) cal_X3_of q1510 rfl hl.1 (Nat.le_of_ble_eq_true rfl) dX3_told_75 ⟨Nat.le_of_ble_eq_true rfl, Nat.le_of_ble_eq_true rfl⟩ ⟨Nat.le_of_ble_eq_true rfl, Nat.le_of_ble_eq_true rfl⟩) hM (fun H locs hM => ?_)
      refine r_iret B hr hM dX3_told_78 ?_
      constructor
      · simp only [A_told, sg0, sg1, sg7, sg25, sg26, sg27, sg28, sg29, sg30, sg31, sg33, sg99, hclkc] <;> grind
      · exact Rel.refl
    by_cases w12_2 : w = 2
    · refine lv_tableIn (tgt := 72) (off := 60) hx hb dX3_told_12 (by rw [w12_2]; decide) (by rw [w12_2]; decide) (by rw [w12_2]; rfl) (by decide) ?_
      subst w12_2
      refine lv_aload_n hx hb dX3_told_72 rfl (lv_at hl 0 rfl) ?_
      refine lv_iload_n hx hb dX3_told_73 rfl (lv_at hl 1 rfl) ?_
      refine lv_iload_n hx hb dX3_told_74 rfl (lv_at hl 2 rfl) ?_
      refine k_pe (v := ka 1000 (7 + 6 * kc + 2)) (r_V (As := [.int (nI kc), .int 2]) (rest := []) B hM hL.1 rfl rfl (ok_of hL (c := kc) (w := 2) (by omega) (by omega)) cal_X3_of q1510 rfl hl.1 (Nat.le_of_ble_eq_true rfl) dX3_told_75 ⟨Nat.le_of_ble_eq_true rfl, Nat.le_of_ble_eq_true rfl⟩ ⟨Nat.le_of_ble_eq_true rfl, Nat.le_of_ble_eq_true rfl⟩) hM (fun H locs hM => ?_)
      refine r_iret B hr hM dX3_told_78 ?_
      constructor
      · simp only [A_told, sg0, sg1, sg7, sg25, sg26, sg27, sg28, sg29, sg30, sg31, sg33, sg99, hclkc] <;> grind
      · exact Rel.refl
    by_cases w12_3 : w = 3
    · refine lv_tableIn (tgt := 79) (off := 67) hx hb dX3_told_12 (by rw [w12_3]; decide) (by rw [w12_3]; decide) (by rw [w12_3]; rfl) (by decide) ?_
      refine lv_aload_n hx hb dX3_told_79 rfl (lv_at hl 0 rfl) ?_
      refine lv_iload_n hx hb dX3_told_80 rfl (lv_at hl 1 rfl) ?_
      refine k_pe (v := fullT (ka 1000) kc) (r_V (As := [.int (nI kc)]) (rest := []) B hM hL.1 rfl rfl (ok_fullOf hL (c := kc) (by omega)) cal_X3_fullOf q1514 rfl hl.1 (Nat.le_of_ble_eq_true rfl) dX3_told_81 ⟨Nat.le_of_ble_eq_true rfl, Nat.le_of_ble_eq_true rfl⟩ ⟨Nat.le_of_ble_eq_true rfl, Nat.le_of_ble_eq_true rfl⟩) hM (fun H locs hM => ?_)
      refine r_iret B hr hM dX3_told_84 ?_
      constructor
      · simp only [A_told, sg0, sg1, sg7, sg25, sg26, sg27, sg28, sg29, sg30, sg31, sg33, sg99, hclkc] <;> grind
      · exact Rel.refl
    by_cases w12_4 : w = 4
    · refine lv_tableIn (tgt := 85) (off := 73) hx hb dX3_told_12 (by rw [w12_4]; decide) (by rw [w12_4]; decide) (by rw [w12_4]; rfl) (by decide) ?_
      refine lv_aload_n hx hb dX3_told_85 rfl (lv_at hl 0 rfl) ?_
      refine lv_iload_n hx hb dX3_told_86 rfl (lv_at hl 1 rfl) ?_
      refine k_i (r_V (As := [.int (nI kc)]) (rest := []) B hM hL.1 rfl rfl (ok_highOf hL hR (c := kc) (by omega)) cal_X3_highOf q1518 rfl hl.1 (Nat.le_of_ble_eq_true rfl) dX3_told_87 ⟨Nat.le_of_ble_eq_true rfl, Nat.le_of_ble_eq_true rfl⟩ ⟨Nat.le_of_ble_eq_true rfl, Nat.le_of_ble_eq_true rfl⟩) hM (fun r_1 ka_2 H locs p_3 hM => ?_)
      obtain ⟨rfl, hq⟩ := p_3
      have hB_2 : But [1023, 1024] ka ka_2 := But.trans But.refl (But.mono hq (by decide))
      refine r_iret B hr hM dX3_told_90 ?_
      constructor
      · simp only [A_told, sg0, sg1, sg7, sg25, sg26, sg27, sg28, sg29, sg30, sg31, sg33, sg99, hclkc] <;> grind
      · exact But.rel hB_2 (by decide)
    by_cases w12_5 : w = 5
    · refine lv_tableIn (tgt := 91) (off := 79) hx hb dX3_told_12 (by rw [w12_5]; decide) (by rw [w12_5]; decide) (by rw [w12_5]; rfl) (by decide) ?_
      refine lv_aload_n hx hb dX3_told_91 rfl (lv_at hl 0 rfl) ?_
      refine lv_iload_n hx hb dX3_told_92 rfl (lv_at hl 1 rfl) ?_
      refine k_i (r_V (As := [.int (nI kc)]) (rest := []) B hM hL.1 rfl rfl (ok_levelOf hL hR (c := kc) (by omega)) cal_X3_levelOf q1536 rfl hl.1 (Nat.le_of_ble_eq_true rfl) dX3_told_93 ⟨Nat.le_of_ble_eq_true rfl, Nat.le_of_ble_eq_true rfl⟩ ⟨Nat.le_of_ble_eq_true rfl, Nat.le_of_ble_eq_true rfl⟩) hM (fun r_4 ka_5 H locs p_6 hM => ?_)
      obtain ⟨rfl, hq⟩ := p_6
      have hB_5 : But [1023, 1024] ka ka_5 := But.trans But.refl (But.mono hq (by decide))
      refine r_iret B hr hM dX3_told_96 ?_
      constructor
      · simp only [A_told, sg0, sg1, sg7, sg25, sg26, sg27, sg28, sg29, sg30, sg31, sg33, sg99, hclkc] <;> grind
      · exact But.rel hB_5 (by decide)
    by_cases w12_6 : w = 6
    · refine lv_tableIn (tgt := 97) (off := 85) hx hb dX3_told_12 (by rw [w12_6]; decide) (by rw [w12_6]; decide) (by rw [w12_6]; rfl) (by decide) ?_
      refine lv_aload_n hx hb dX3_told_97 rfl (lv_at hl 0 rfl) ?_
      refine lv_iload_n hx hb dX3_told_98 rfl (lv_at hl 1 rfl) ?_
      refine k_pe (v := losesT (ka 1000) kc) (r_V (As := [.int (nI kc)]) (rest := []) B hM hL.1 rfl rfl (ok_losesOf hL (c := kc) (by omega)) cal_X3_losesOf q1540 rfl hl.1 (Nat.le_of_ble_eq_true rfl) dX3_told_99 ⟨Nat.le_of_ble_eq_true rfl, Nat.le_of_ble_eq_true rfl⟩ ⟨Nat.le_of_ble_eq_true rfl, Nat.le_of_ble_eq_true rfl⟩) hM (fun H locs hM => ?_)
      refine r_iret B hr hM dX3_told_102 ?_
      constructor
      · simp only [A_told, sg0, sg1, sg7, sg25, sg26, sg27, sg28, sg29, sg30, sg31, sg33, sg99, hclkc] <;> grind
      · exact Rel.refl
    by_cases w12_7 : w = 7
    · refine lv_tableIn (tgt := 103) (off := 91) hx hb dX3_told_12 (by rw [w12_7]; decide) (by rw [w12_7]; decide) (by rw [w12_7]; rfl) (by decide) ?_
      refine lv_aload_n hx hb dX3_told_103 rfl (lv_at hl 0 rfl) ?_
      refine lv_iload_n hx hb dX3_told_104 rfl (lv_at hl 1 rfl) ?_
      refine k_pe (v := worthT (ka 1000) kc) (r_V (As := [.int (nI kc)]) (rest := []) B hM hL.1 rfl rfl (ok_worthOf hL (c := kc) (by omega)) cal_X3_worthOf q1544 rfl hl.1 (Nat.le_of_ble_eq_true rfl) dX3_told_105 ⟨Nat.le_of_ble_eq_true rfl, Nat.le_of_ble_eq_true rfl⟩ ⟨Nat.le_of_ble_eq_true rfl, Nat.le_of_ble_eq_true rfl⟩) hM (fun H locs hM => ?_)
      refine r_iret B hr hM dX3_told_108 ?_
      constructor
      · simp only [A_told, sg0, sg1, sg7, sg25, sg26, sg27, sg28, sg29, sg30, sg31, sg33, sg99, hclkc] <;> grind
      · exact Rel.refl
    by_cases w12_8 : w = 8
    · refine lv_tableIn (tgt := 109) (off := 97) hx hb dX3_told_12 (by rw [w12_8]; decide) (by rw [w12_8]; decide) (by rw [w12_8]; rfl) (by decide) ?_
      subst w12_8
      refine lv_aload_n hx hb dX3_told_109 rfl (lv_at hl 0 rfl) ?_
      refine lv_iload_n hx hb dX3_told_110 rfl (lv_at hl 1 rfl) ?_
      refine lv_iload_n hx hb dX3_told_111 rfl (lv_at hl 2 rfl) ?_
      refine lv_iconst (v := 5) hx hb dX3_told_112 (by decide) ?_
      refine lv_isub hx hb dX3_told_113 ?_
      refine W.eq (g2 := F0 m_ 114 ls (.int 3 :: [.int (nI kc), .ref y0])) rfl ?_
      refine k_pe (v := ka 1000 (7 + 6 * kc + 3)) (r_V (As := [.int (nI kc), .int 3]) (rest := []) B hM hL.1 rfl rfl (ok_of hL (c := kc) (w := 3) (by omega) (by omega)) cal_X3_of q1510 rfl hl.1 (Nat.le_of_ble_eq_true rfl) dX3_told_114 ⟨Nat.le_of_ble_eq_true rfl, Nat.le_of_ble_eq_true rfl⟩ ⟨Nat.le_of_ble_eq_true rfl, Nat.le_of_ble_eq_true rfl⟩) hM (fun H locs hM => ?_)
      refine r_iret B hr hM dX3_told_117 ?_
      constructor
      · simp only [A_told, sg0, sg1, sg7, sg25, sg26, sg27, sg28, sg29, sg30, sg31, sg33, sg99, hclkc] <;> grind
      · exact Rel.refl
    by_cases w12_9 : w = 9
    · refine lv_tableIn (tgt := 109) (off := 97) hx hb dX3_told_12 (by rw [w12_9]; decide) (by rw [w12_9]; decide) (by rw [w12_9]; rfl) (by decide) ?_
      subst w12_9
      refine lv_aload_n hx hb dX3_told_109 rfl (lv_at hl 0 rfl) ?_
      refine lv_iload_n hx hb dX3_told_110 rfl (lv_at hl 1 rfl) ?_
      refine lv_iload_n hx hb dX3_told_111 rfl (lv_at hl 2 rfl) ?_
      refine lv_iconst (v := 5) hx hb dX3_told_112 (by decide) ?_
      refine lv_isub hx hb dX3_told_113 ?_
      refine W.eq (g2 := F0 m_ 114 ls (.int 4 :: [.int (nI kc), .ref y0])) rfl ?_
      refine k_pe (v := ka 1000 (7 + 6 * kc + 4)) (r_V (As := [.int (nI kc), .int 4]) (rest := []) B hM hL.1 rfl rfl (ok_of hL (c := kc) (w := 4) (by omega) (by omega)) cal_X3_of q1510 rfl hl.1 (Nat.le_of_ble_eq_true rfl) dX3_told_114 ⟨Nat.le_of_ble_eq_true rfl, Nat.le_of_ble_eq_true rfl⟩ ⟨Nat.le_of_ble_eq_true rfl, Nat.le_of_ble_eq_true rfl⟩) hM (fun H locs hM => ?_)
      refine r_iret B hr hM dX3_told_117 ?_
      constructor
      · simp only [A_told, sg0, sg1, sg7, sg25, sg26, sg27, sg28, sg29, sg30, sg31, sg33, sg99, hclkc] <;> grind
      · exact Rel.refl
    by_cases w12_10 : w = 10
    · refine lv_tableIn (tgt := 109) (off := 97) hx hb dX3_told_12 (by rw [w12_10]; decide) (by rw [w12_10]; decide) (by rw [w12_10]; rfl) (by decide) ?_
      subst w12_10
      refine lv_aload_n hx hb dX3_told_109 rfl (lv_at hl 0 rfl) ?_
      refine lv_iload_n hx hb dX3_told_110 rfl (lv_at hl 1 rfl) ?_
      refine lv_iload_n hx hb dX3_told_111 rfl (lv_at hl 2 rfl) ?_
      refine lv_iconst (v := 5) hx hb dX3_told_112 (by decide) ?_
      refine lv_isub hx hb dX3_told_113 ?_
      refine W.eq (g2 := F0 m_ 114 ls (.int 5 :: [.int (nI kc), .ref y0])) rfl ?_
      refine k_pe (v := ka 1000 (7 + 6 * kc + 5)) (r_V (As := [.int (nI kc), .int 5]) (rest := []) B hM hL.1 rfl rfl (ok_of hL (c := kc) (w := 5) (by omega) (by omega)) cal_X3_of q1510 rfl hl.1 (Nat.le_of_ble_eq_true rfl) dX3_told_114 ⟨Nat.le_of_ble_eq_true rfl, Nat.le_of_ble_eq_true rfl⟩ ⟨Nat.le_of_ble_eq_true rfl, Nat.le_of_ble_eq_true rfl⟩) hM (fun H locs hM => ?_)
      refine r_iret B hr hM dX3_told_117 ?_
      constructor
      · simp only [A_told, sg0, sg1, sg7, sg25, sg26, sg27, sg28, sg29, sg30, sg31, sg33, sg99, hclkc] <;> grind
      · exact Rel.refl
    have tw12_0 : Int32.toInt (w) ≠ 0 := fun z => w12_0 (Int32.toInt_inj.mp (z.trans (by decide)))
    have tw12_1 : Int32.toInt (w) ≠ 1 := fun z => w12_1 (Int32.toInt_inj.mp (z.trans (by decide)))
    have tw12_2 : Int32.toInt (w) ≠ 2 := fun z => w12_2 (Int32.toInt_inj.mp (z.trans (by decide)))
    have tw12_3 : Int32.toInt (w) ≠ 3 := fun z => w12_3 (Int32.toInt_inj.mp (z.trans (by decide)))
    have tw12_4 : Int32.toInt (w) ≠ 4 := fun z => w12_4 (Int32.toInt_inj.mp (z.trans (by decide)))
    have tw12_5 : Int32.toInt (w) ≠ 5 := fun z => w12_5 (Int32.toInt_inj.mp (z.trans (by decide)))
    have tw12_6 : Int32.toInt (w) ≠ 6 := fun z => w12_6 (Int32.toInt_inj.mp (z.trans (by decide)))
    have tw12_7 : Int32.toInt (w) ≠ 7 := fun z => w12_7 (Int32.toInt_inj.mp (z.trans (by decide)))
    have tw12_8 : Int32.toInt (w) ≠ 8 := fun z => w12_8 (Int32.toInt_inj.mp (z.trans (by decide)))
    have tw12_9 : Int32.toInt (w) ≠ 9 := fun z => w12_9 (Int32.toInt_inj.mp (z.trans (by decide)))
    have tw12_10 : Int32.toInt (w) ≠ 10 := fun z => w12_10 (Int32.toInt_inj.mp (z.trans (by decide)))
    refine lv_tableOut (tgt := 118) hx hb dX3_told_12 (by omega) (by decide) ?_
    refine lv_ldc hx hb B.2.2.2.1 (B.ts _ q1496) dX3_told_118 ?_
    refine r_iret B hr hM dX3_told_120 ?_
    constructor
    · simp only [A_told, sg0, sg1, sg7, sg25, sg26, sg27, sg28, sg29, sg30, sg31, sg33, sg99, hclkc] <;> grind
    · exact Rel.refl
  · refine lv_if_ne (tgt := 11) hx hb dX3_told_5 (by decide) (fun cZ => absurd (by decide) cZ) (fun c5 => ?_)
    refine lv_ldc hx hb B.2.2.2.1 (B.ts _ q1496) dX3_told_8 ?_
    refine r_iret B hr hM dX3_told_10 ?_
    have ib2 := mt (inC_iff (n := nC (ka 1000)) (by omega)).mp b2
    constructor
    · simp only [A_told, sg0, sg1, sg7, sg25, sg26, sg27, sg28, sg29, sg30, sg31, sg33, sg99] <;> grind
    · exact Rel.refl
set_option maxHeartbeats 4000000 in
theorem ok_takes (hL : LayM th rh y0 ay) (hR : Rok (ka 1000)) (c n : Int32) : Met l yX3_takes (ws_ yX3_takes cX3_takes 3 (some .int)) (RM 3 0 0) (Pc_ G [.ref y0, .int c, .int n] th rh ph ka) (Qi G th rh ph (fun r ka' => r = A_takes (sg ka) c n ∧ Rel (sg ka) (sg ka'))) 0 0 (frG G) := by
  refine m_of (by decide) (Nat.le_of_ble_eq_true rfl) ?_
  intro p_ e_ s_ m_ below_ meth_ c_ B hr hnm ls hl hM
  have hx := B.1
  have hb := B.2.1
  have hM := hM
  have h8 := hR.1.2
  have h13 := hR.2.1.2
  have h14 := hR.2.2.1.2
  refine lv_aload_n hx hb dX3_takes_0 rfl (lv_at hl 0 rfl) ?_
  refine lv_iload_n hx hb dX3_takes_1 rfl (lv_at hl 1 rfl) ?_
  refine k_pb (r_V (As := [.int c]) (rest := []) B hM hL.1 rfl rfl (ok_isCellar hL hR c) cal_X3_isCellar q1506 rfl hl.1 (Nat.le_of_ble_eq_true rfl) dX3_takes_2 ⟨Nat.le_of_ble_eq_true rfl, Nat.le_of_ble_eq_true rfl⟩ ⟨Nat.le_of_ble_eq_true rfl, Nat.le_of_ble_eq_true rfl⟩) hM (fun H locs b2 hM => ?_) (fun H locs b2 hM => ?_)
  · obtain ⟨kc, hkc, rfl⟩ := b2
    have hinkc : inC (nI kc) (nC (ka 1000)) := (inC_iff (by omega)).mpr ⟨kc, hkc, rfl⟩
    have hclkc : cl (nI kc) = kc := cl_nI (by omega)
    refine lv_if_eq (tgt := 28) hx hb dX3_takes_5 (by decide) (fun cZ => absurd cZ (by decide)) (fun c5 => ?_)
    refine lv_iload_n hx hb dX3_takes_8 rfl (lv_at hl 2 rfl) ?_
    refine lv_iconst (v := 0) hx hb dX3_takes_9 (by decide) ?_
    refine lv_sipush (v := 9999) hx hb dX3_takes_10 (by decide) ?_
    refine k_pb (r_S (As := [.int n, .int 0, .int 9999]) (rest := []) B hM (ok_in n 0 9999) cal_X3_in q1493 rfl hl.1 (Nat.le_of_ble_eq_true rfl) dX3_takes_13 ⟨Nat.le_of_ble_eq_true rfl, Nat.le_of_ble_eq_true rfl⟩ ⟨Nat.le_of_ble_eq_true rfl, Nat.le_of_ble_eq_true rfl⟩) hM (fun H locs b13 hM => ?_) (fun H locs b13 hM => ?_)
    · refine lv_if_eq (tgt := 28) hx hb dX3_takes_16 (by decide) (fun cZ => absurd cZ (by decide)) (fun c16 => ?_)
      refine lv_aload_n hx hb dX3_takes_19 rfl (lv_at hl 0 rfl) ?_
      refine lv_iload_n hx hb dX3_takes_20 rfl (lv_at hl 1 rfl) ?_
      refine lv_iload_n hx hb dX3_takes_21 rfl (lv_at hl 2 rfl) ?_
      refine k_pe (v := takesT (ka 1000) kc n) (r_V (As := [.int (nI kc), .int n]) (rest := []) B hM hL.1 rfl rfl (ok_takesIn hL (c := kc) (by omega) n) cal_X3_takesIn q1552 rfl hl.1 (Nat.le_of_ble_eq_true rfl) dX3_takes_22 ⟨Nat.le_of_ble_eq_true rfl, Nat.le_of_ble_eq_true rfl⟩ ⟨Nat.le_of_ble_eq_true rfl, Nat.le_of_ble_eq_true rfl⟩) hM (fun H locs hM => ?_)
      refine lv_goto (tgt := 30) hx hb dX3_takes_25 (by decide) ?_
      refine r_iret B hr hM dX3_takes_30 ?_
      constructor
      · simp only [A_takes, sg0, sg1, sg7, sg25, sg26, sg27, sg28, sg29, sg30, sg31, sg33, sg99, hclkc] <;> grind
      · exact Rel.refl
    · refine lv_if_eq (tgt := 28) hx hb dX3_takes_16 (by decide) (fun c16 => ?_) (fun cZ => absurd (by decide) cZ)
      refine lv_ldc hx hb B.2.2.2.1 (B.ts _ q1496) dX3_takes_28 ?_
      refine r_iret B hr hM dX3_takes_30 ?_
      constructor
      · simp only [A_takes, sg0, sg1, sg7, sg25, sg26, sg27, sg28, sg29, sg30, sg31, sg33, sg99, hclkc] <;> grind
      · exact Rel.refl
  · refine lv_if_eq (tgt := 28) hx hb dX3_takes_5 (by decide) (fun c5 => ?_) (fun cZ => absurd (by decide) cZ)
    refine lv_ldc hx hb B.2.2.2.1 (B.ts _ q1496) dX3_takes_28 ?_
    refine r_iret B hr hM dX3_takes_30 ?_
    have ib2 := mt (inC_iff (n := nC (ka 1000)) (by omega)).mp b2
    constructor
    · simp only [A_takes, sg0, sg1, sg7, sg25, sg26, sg27, sg28, sg29, sg30, sg31, sg33, sg99] <;> grind
    · exact Rel.refl
set_option maxHeartbeats 4000000 in
theorem ok_as (hL : LayM th rh y0 ay) (hR : Rok (ka 1000)) (c kd : Int32) : Met l yX3_as (ws_ yX3_as cX3_as 3 (some .int)) (RM 3 0 0) (Pc_ G [.ref y0, .int c, .int kd] th rh ph ka) (Qi G th rh ph (fun r ka' => r = A_as (sg ka) c kd ∧ Rel (sg ka) (sg ka'))) 0 0 (frG G) := by
  refine m_of (by decide) (Nat.le_of_ble_eq_true rfl) ?_
  intro p_ e_ s_ m_ below_ meth_ c_ B hr hnm ls hl hM
  have hx := B.1
  have hb := B.2.1
  have hM := hM
  have h8 := hR.1.2
  have h13 := hR.2.1.2
  have h14 := hR.2.2.1.2
  refine lv_aload_n hx hb dX3_as_0 rfl (lv_at hl 0 rfl) ?_
  refine lv_iload_n hx hb dX3_as_1 rfl (lv_at hl 1 rfl) ?_
  refine k_pb (r_V (As := [.int c]) (rest := []) B hM hL.1 rfl rfl (ok_isCellar hL hR c) cal_X3_isCellar q1506 rfl hl.1 (Nat.le_of_ble_eq_true rfl) dX3_as_2 ⟨Nat.le_of_ble_eq_true rfl, Nat.le_of_ble_eq_true rfl⟩ ⟨Nat.le_of_ble_eq_true rfl, Nat.le_of_ble_eq_true rfl⟩) hM (fun H locs b2 hM => ?_) (fun H locs b2 hM => ?_)
  · obtain ⟨kc, hkc, rfl⟩ := b2
    have hinkc : inC (nI kc) (nC (ka 1000)) := (inC_iff (by omega)).mpr ⟨kc, hkc, rfl⟩
    have hclkc : cl (nI kc) = kc := cl_nI (by omega)
    refine lv_if_eq (tgt := 17) hx hb dX3_as_5 (by decide) (fun cZ => absurd cZ (by decide)) (fun c5 => ?_)
    refine lv_iload_n hx hb dX3_as_8 rfl (lv_at hl 2 rfl) ?_
    refine lv_iconst (v := 0) hx hb dX3_as_9 (by decide) ?_
    refine lv_iconst (v := 5) hx hb dX3_as_10 (by decide) ?_
    refine k_pb (r_S (As := [.int kd, .int 0, .int 5]) (rest := []) B hM (ok_in kd 0 5) cal_X3_in q1493 rfl hl.1 (Nat.le_of_ble_eq_true rfl) dX3_as_11 ⟨Nat.le_of_ble_eq_true rfl, Nat.le_of_ble_eq_true rfl⟩ ⟨Nat.le_of_ble_eq_true rfl, Nat.le_of_ble_eq_true rfl⟩) hM (fun H locs b11 hM => ?_) (fun H locs b11 hM => ?_)
    · refine lv_if_ne (tgt := 20) hx hb dX3_as_14 (by decide) (fun c14 => ?_) (fun cZ => absurd cZ (by decide))
      refine lv_aload_n hx hb dX3_as_20 rfl (lv_at hl 0 rfl) ?_
      refine lv_iload_n hx hb dX3_as_21 rfl (lv_at hl 1 rfl) ?_
      refine lv_iconst (v := 0) hx hb dX3_as_22 (by decide) ?_
      refine k_pe (v := ka 1000 (7 + 6 * kc + 0)) (r_V (As := [.int (nI kc), .int 0]) (rest := []) B hM hL.1 rfl rfl (ok_of hL (c := kc) (w := 0) (by omega) (by omega)) cal_X3_of q1510 rfl hl.1 (Nat.le_of_ble_eq_true rfl) dX3_as_23 ⟨Nat.le_of_ble_eq_true rfl, Nat.le_of_ble_eq_true rfl⟩ ⟨Nat.le_of_ble_eq_true rfl, Nat.le_of_ble_eq_true rfl⟩) hM (fun H locs hM => ?_)
      refine lv_iload_n hx hb dX3_as_26 rfl (lv_at hl 2 rfl) ?_
      refine k_pb (r_S (As := [.int (ka 1000 (7 + 6 * kc + 0)), .int kd]) (rest := []) B hM (ok_isUnder (ka 1000 (7 + 6 * kc + 0)) kd) cal_X3_isUnder q1560 rfl hl.1 (Nat.le_of_ble_eq_true rfl) dX3_as_27 ⟨Nat.le_of_ble_eq_true rfl, Nat.le_of_ble_eq_true rfl⟩ ⟨Nat.le_of_ble_eq_true rfl, Nat.le_of_ble_eq_true rfl⟩) hM (fun H locs b27 hM => ?_) (fun H locs b27 hM => ?_)
      · refine lv_if_eq (tgt := 42) hx hb dX3_as_30 (by decide) (fun cZ => absurd cZ (by decide)) (fun c30 => ?_)
        refine lv_aload_n hx hb dX3_as_33 rfl (lv_at hl 0 rfl) ?_
        refine lv_iload_n hx hb dX3_as_34 rfl (lv_at hl 1 rfl) ?_
        refine lv_iconst (v := 2) hx hb dX3_as_35 (by decide) ?_
        refine k_pe (v := ka 1000 (7 + 6 * kc + 2)) (r_V (As := [.int (nI kc), .int 2]) (rest := []) B hM hL.1 rfl rfl (ok_of hL (c := kc) (w := 2) (by omega) (by omega)) cal_X3_of q1510 rfl hl.1 (Nat.le_of_ble_eq_true rfl) dX3_as_36 ⟨Nat.le_of_ble_eq_true rfl, Nat.le_of_ble_eq_true rfl⟩ ⟨Nat.le_of_ble_eq_true rfl, Nat.le_of_ble_eq_true rfl⟩) hM (fun H locs hM => ?_)
        refine lv_goto (tgt := 44) hx hb dX3_as_39 (by decide) ?_
        refine r_iret B hr hM dX3_as_44 ?_
        constructor
        · simp only [A_as, sg0, sg1, sg7, sg25, sg26, sg27, sg28, sg29, sg30, sg31, sg33, sg99, hclkc] <;> grind
        · exact Rel.refl
      · refine lv_if_eq (tgt := 42) hx hb dX3_as_30 (by decide) (fun c30 => ?_) (fun cZ => absurd (by decide) cZ)
        refine lv_ldc hx hb B.2.2.2.1 (B.ts _ q1563) dX3_as_42 ?_
        refine r_iret B hr hM dX3_as_44 ?_
        constructor
        · simp only [A_as, sg0, sg1, sg7, sg25, sg26, sg27, sg28, sg29, sg30, sg31, sg33, sg99, hclkc] <;> grind
        · exact Rel.refl
    · refine lv_if_ne (tgt := 20) hx hb dX3_as_14 (by decide) (fun cZ => absurd (by decide) cZ) (fun c14 => ?_)
      refine lv_ldc hx hb B.2.2.2.1 (B.ts _ q1496) dX3_as_17 ?_
      refine r_iret B hr hM dX3_as_19 ?_
      constructor
      · simp only [A_as, sg0, sg1, sg7, sg25, sg26, sg27, sg28, sg29, sg30, sg31, sg33, sg99, hclkc] <;> grind
      · exact Rel.refl
  · refine lv_if_eq (tgt := 17) hx hb dX3_as_5 (by decide) (fun c5 => ?_) (fun cZ => absurd (by decide) cZ)
    refine lv_ldc hx hb B.2.2.2.1 (B.ts _ q1496) dX3_as_17 ?_
    refine r_iret B hr hM dX3_as_19 ?_
    have ib2 := mt (inC_iff (n := nC (ka 1000)) (by omega)).mp b2
    constructor
    · simp only [A_as, sg0, sg1, sg7, sg25, sg26, sg27, sg28, sg29, sg30, sg31, sg33, sg99] <;> grind
    · exact Rel.refl
set_option maxHeartbeats 4000000 in
theorem ok_turns (hL : LayM th rh y0 ay) (hR : Rok (ka 1000)) (c kd : Int32) : Met l yX3_turns (ws_ yX3_turns cX3_turns 3 (some .int)) (RM 3 0 0) (Pc_ G [.ref y0, .int c, .int kd] th rh ph ka) (Qi G th rh ph (fun r ka' => r = A_turns (sg ka) c kd ∧ Rel (S_turns (sg ka) c kd) (sg ka'))) 0 0 (frG G) := by
  refine m_of (by decide) (Nat.le_of_ble_eq_true rfl) ?_
  intro p_ e_ s_ m_ below_ meth_ c_ B hr hnm ls hl hM
  have hx := B.1
  have hb := B.2.1
  have hM := hM
  have h8 := hR.1.2
  have h13 := hR.2.1.2
  have h14 := hR.2.2.1.2
  refine lv_aload_n hx hb dX3_turns_0 rfl (lv_at hl 0 rfl) ?_
  refine lv_iload_n hx hb dX3_turns_1 rfl (lv_at hl 1 rfl) ?_
  refine k_pb (r_V (As := [.int c]) (rest := []) B hM hL.1 rfl rfl (ok_isCellar hL hR c) cal_X3_isCellar q1506 rfl hl.1 (Nat.le_of_ble_eq_true rfl) dX3_turns_2 ⟨Nat.le_of_ble_eq_true rfl, Nat.le_of_ble_eq_true rfl⟩ ⟨Nat.le_of_ble_eq_true rfl, Nat.le_of_ble_eq_true rfl⟩) hM (fun H locs b2 hM => ?_) (fun H locs b2 hM => ?_)
  · obtain ⟨kc, hkc, rfl⟩ := b2
    have hinkc : inC (nI kc) (nC (ka 1000)) := (inC_iff (by omega)).mpr ⟨kc, hkc, rfl⟩
    have hclkc : cl (nI kc) = kc := cl_nI (by omega)
    refine lv_if_eq (tgt := 32) hx hb dX3_turns_5 (by decide) (fun cZ => absurd cZ (by decide)) (fun c5 => ?_)
    refine lv_iload_n hx hb dX3_turns_8 rfl (lv_at hl 2 rfl) ?_
    refine lv_iconst (v := 0) hx hb dX3_turns_9 (by decide) ?_
    refine lv_iconst (v := 5) hx hb dX3_turns_10 (by decide) ?_
    refine k_pb (r_S (As := [.int kd, .int 0, .int 5]) (rest := []) B hM (ok_in kd 0 5) cal_X3_in q1493 rfl hl.1 (Nat.le_of_ble_eq_true rfl) dX3_turns_11 ⟨Nat.le_of_ble_eq_true rfl, Nat.le_of_ble_eq_true rfl⟩ ⟨Nat.le_of_ble_eq_true rfl, Nat.le_of_ble_eq_true rfl⟩) hM (fun H locs b11 hM => ?_) (fun H locs b11 hM => ?_)
    · refine lv_if_eq (tgt := 32) hx hb dX3_turns_14 (by decide) (fun cZ => absurd cZ (by decide)) (fun c14 => ?_)
      refine lv_aload_n hx hb dX3_turns_17 rfl (lv_at hl 0 rfl) ?_
      refine lv_bipush (v := 7) hx hb dX3_turns_18 (by decide) ?_
      refine lv_bipush (v := 6) hx hb dX3_turns_20 (by decide) ?_
      refine lv_iload_n hx hb dX3_turns_22 rfl (lv_at hl 1 rfl) ?_
      refine lv_imul hx hb dX3_turns_23 ?_
      refine lv_iadd hx hb dX3_turns_24 ?_
      refine lv_iload_n hx hb dX3_turns_25 rfl (lv_at hl 2 rfl) ?_
      refine W.eq (g2 := F0 m_ 26 ls (.int kd :: .int (nI (7 + 6 * kc)) :: [.ref y0])) (by rw [show 7 + (6 * (nI kc)) = nI (7 + 6 * kc) from (by simp only [nA, nMu, nL])]) ?_
      refine k_i (r_V (As := [.int (nI (7 + 6 * kc)), .int kd]) (rest := []) B hM hL.1 rfl rfl (ok_becomes hL (i := 7 + 6 * kc) (by omega) kd) cal_X3_becomes q1568 rfl hl.1 (Nat.le_of_ble_eq_true rfl) dX3_turns_26 ⟨Nat.le_of_ble_eq_true rfl, Nat.le_of_ble_eq_true rfl⟩ ⟨Nat.le_of_ble_eq_true rfl, Nat.le_of_ble_eq_true rfl⟩) hM (fun r_1 ka_2 H locs p_3 hM => ?_)
      obtain ⟨rfl, ec⟩ := p_3
      refine lv_goto (tgt := 34) hx hb dX3_turns_29 (by decide) ?_
      refine r_iret B hr hM dX3_turns_34 ?_
      constructor
      · simp only [A_turns, sg0, sg1, sg7, sg25, sg26, sg27, sg28, sg29, sg30, sg31, sg33, sg99, hclkc] <;> grind
      · refine Rel.of ?_; rw [ec]; (simp only [S_turns, sg0, sg1, sg7, sg25, sg26, sg27, sg28, sg29, sg30, sg31, sg33, sg99, hclkc]; rw [sg_up2 ka 0]) <;> grind
    · refine lv_if_eq (tgt := 32) hx hb dX3_turns_14 (by decide) (fun c14 => ?_) (fun cZ => absurd (by decide) cZ)
      refine lv_ldc hx hb B.2.2.2.1 (B.ts _ q1496) dX3_turns_32 ?_
      refine r_iret B hr hM dX3_turns_34 ?_
      constructor
      · simp only [A_turns, sg0, sg1, sg7, sg25, sg26, sg27, sg28, sg29, sg30, sg31, sg33, sg99, hclkc] <;> grind
      · refine Rel.of ?_; simp only [S_turns, sg0, sg1, sg7, sg25, sg26, sg27, sg28, sg29, sg30, sg31, sg33, sg99, hclkc] <;> grind
  · refine lv_if_eq (tgt := 32) hx hb dX3_turns_5 (by decide) (fun c5 => ?_) (fun cZ => absurd (by decide) cZ)
    refine lv_ldc hx hb B.2.2.2.1 (B.ts _ q1496) dX3_turns_32 ?_
    refine r_iret B hr hM dX3_turns_34 ?_
    have ib2 := mt (inC_iff (n := nC (ka 1000)) (by omega)).mp b2
    constructor
    · simp only [A_turns, sg0, sg1, sg7, sg25, sg26, sg27, sg28, sg29, sg30, sg31, sg33, sg99] <;> grind
    · refine Rel.of ?_; simp only [S_turns, sg0, sg1, sg7, sg25, sg26, sg27, sg28, sg29, sg30, sg31, sg33, sg99] <;> grind
set_option maxHeartbeats 4000000 in
theorem ok_cork (hL : LayM th rh y0 ay) (hR : Rok (ka 1000)) (q v : Int32) : Met l yX3_cork (ws_ yX3_cork cX3_cork 3 (some .int)) (RM 3 0 0) (Pc_ G [.ref y0, .int q, .int v] th rh ph ka) (Qi G th rh ph (fun r ka' => r = A_cork (sg ka) q v ∧ Rel (S_cork (sg ka) q v) (sg ka'))) 0 0 (frG G) := by
  refine m_of (by decide) (Nat.le_of_ble_eq_true rfl) ?_
  intro p_ e_ s_ m_ below_ meth_ c_ B hr hnm ls hl hM
  have hx := B.1
  have hb := B.2.1
  have hM := hM
  have h8 := hR.1.2
  have h13 := hR.2.1.2
  have h14 := hR.2.2.1.2
  refine lv_aload_n hx hb dX3_cork_0 rfl (lv_at hl 0 rfl) ?_
  refine lv_iload_n hx hb dX3_cork_1 rfl (lv_at hl 1 rfl) ?_
  refine k_pb (r_V (As := [.int q]) (rest := []) B hM hL.1 rfl rfl (ok_isPipe hL hR q) cal_X3_isPipe q1588 rfl hl.1 (Nat.le_of_ble_eq_true rfl) dX3_cork_2 ⟨Nat.le_of_ble_eq_true rfl, Nat.le_of_ble_eq_true rfl⟩ ⟨Nat.le_of_ble_eq_true rfl, Nat.le_of_ble_eq_true rfl⟩) hM (fun H locs b2 hM => ?_) (fun H locs b2 hM => ?_)
  · obtain ⟨kq, hkq, rfl⟩ := b2
    have hinkq : inC (nI kq) (nP (ka 1000)) := (inC_iff (by omega)).mpr ⟨kq, hkq, rfl⟩
    have hclkq : cl (nI kq) = kq := cl_nI (by omega)
    refine lv_if_eq (tgt := 33) hx hb dX3_cork_5 (by decide) (fun cZ => absurd cZ (by decide)) (fun c5 => ?_)
    refine lv_iload_n hx hb dX3_cork_8 rfl (lv_at hl 2 rfl) ?_
    refine lv_iconst (v := 0) hx hb dX3_cork_9 (by decide) ?_
    refine lv_iconst (v := 1) hx hb dX3_cork_10 (by decide) ?_
    refine k_pb (r_S (As := [.int v, .int 0, .int 1]) (rest := []) B hM (ok_in v 0 1) cal_X3_in q1493 rfl hl.1 (Nat.le_of_ble_eq_true rfl) dX3_cork_11 ⟨Nat.le_of_ble_eq_true rfl, Nat.le_of_ble_eq_true rfl⟩ ⟨Nat.le_of_ble_eq_true rfl, Nat.le_of_ble_eq_true rfl⟩) hM (fun H locs b11 hM => ?_) (fun H locs b11 hM => ?_)
    · refine lv_if_eq (tgt := 33) hx hb dX3_cork_14 (by decide) (fun cZ => absurd cZ (by decide)) (fun c14 => ?_)
      refine lv_aload_n hx hb dX3_cork_17 rfl (lv_at hl 0 rfl) ?_
      refine lv_bipush (v := 55) hx hb dX3_cork_18 (by decide) ?_
      refine lv_iconst (v := 4) hx hb dX3_cork_20 (by decide) ?_
      refine lv_iload_n hx hb dX3_cork_21 rfl (lv_at hl 1 rfl) ?_
      refine lv_imul hx hb dX3_cork_22 ?_
      refine lv_iadd hx hb dX3_cork_23 ?_
      refine lv_iconst (v := 3) hx hb dX3_cork_24 (by decide) ?_
      refine lv_iadd hx hb dX3_cork_25 ?_
      refine lv_iload_n hx hb dX3_cork_26 rfl (lv_at hl 2 rfl) ?_
      refine W.eq (g2 := F0 m_ 27 ls (.int v :: .int (nI (55 + 4 * kq + 3)) :: [.ref y0])) (by rw [show (55 + (4 * (nI kq))) + 3 = nI (55 + 4 * kq + 3) from (by simp only [nA, nMu, nL])]) ?_
      refine k_i (r_V (As := [.int (nI (55 + 4 * kq + 3)), .int v]) (rest := []) B hM hL.1 rfl rfl (ok_becomes hL (i := 55 + 4 * kq + 3) (by omega) v) cal_X3_becomes q1568 rfl hl.1 (Nat.le_of_ble_eq_true rfl) dX3_cork_27 ⟨Nat.le_of_ble_eq_true rfl, Nat.le_of_ble_eq_true rfl⟩ ⟨Nat.le_of_ble_eq_true rfl, Nat.le_of_ble_eq_true rfl⟩) hM (fun r_1 ka_2 H locs p_3 hM => ?_)
      obtain ⟨rfl, ec⟩ := p_3
      refine lv_goto (tgt := 35) hx hb dX3_cork_30 (by decide) ?_
      refine r_iret B hr hM dX3_cork_35 ?_
      constructor
      · simp only [A_cork, sg0, sg1, sg7, sg25, sg26, sg27, sg28, sg29, sg30, sg31, sg33, sg99, hclkq] <;> grind
      · refine Rel.of ?_; rw [ec]; (simp only [S_cork, sg0, sg1, sg7, sg25, sg26, sg27, sg28, sg29, sg30, sg31, sg33, sg99, hclkq]; rw [sg_up2 ka 0]) <;> grind
    · refine lv_if_eq (tgt := 33) hx hb dX3_cork_14 (by decide) (fun c14 => ?_) (fun cZ => absurd (by decide) cZ)
      refine lv_ldc hx hb B.2.2.2.1 (B.ts _ q1496) dX3_cork_33 ?_
      refine r_iret B hr hM dX3_cork_35 ?_
      constructor
      · simp only [A_cork, sg0, sg1, sg7, sg25, sg26, sg27, sg28, sg29, sg30, sg31, sg33, sg99, hclkq] <;> grind
      · refine Rel.of ?_; simp only [S_cork, sg0, sg1, sg7, sg25, sg26, sg27, sg28, sg29, sg30, sg31, sg33, sg99, hclkq] <;> grind
  · refine lv_if_eq (tgt := 33) hx hb dX3_cork_5 (by decide) (fun c5 => ?_) (fun cZ => absurd (by decide) cZ)
    refine lv_ldc hx hb B.2.2.2.1 (B.ts _ q1496) dX3_cork_33 ?_
    refine r_iret B hr hM dX3_cork_35 ?_
    have ib2 := mt (inC_iff (n := nP (ka 1000)) (by omega)).mp b2
    constructor
    · simp only [A_cork, sg0, sg1, sg7, sg25, sg26, sg27, sg28, sg29, sg30, sg31, sg33, sg99] <;> grind
    · refine Rel.of ?_; simp only [S_cork, sg0, sg1, sg7, sg25, sg26, sg27, sg28, sg29, sg30, sg31, sg33, sg99] <;> grind
set_option maxHeartbeats 4000000 in
theorem ok_thirst (hL : LayM th rh y0 ay) (v : Int32) : Met l yX3_thirst (ws_ yX3_thirst cX3_thirst 2 (some .int)) (RM 2 0 0) (Pc_ G [.ref y0, .int v] th rh ph ka) (Qi G th rh ph (fun r ka' => r = A_thirst (sg ka) v ∧ Rel (S_thirst (sg ka) v) (sg ka'))) 0 0 (frG G) := by
  refine m_of (by decide) (Nat.le_of_ble_eq_true rfl) ?_
  intro p_ e_ s_ m_ below_ meth_ c_ B hr hnm ls hl hM
  have hx := B.1
  have hb := B.2.1
  have hM := hM
  refine lv_iload_n hx hb dX3_thirst_0 rfl (lv_at hl 1 rfl) ?_
  refine lv_iconst (v := 0) hx hb dX3_thirst_1 (by decide) ?_
  refine lv_bipush (v := 100) hx hb dX3_thirst_2 (by decide) ?_
  refine k_pb (r_S (As := [.int v, .int 0, .int 100]) (rest := []) B hM (ok_in v 0 100) cal_X3_in q1493 rfl hl.1 (Nat.le_of_ble_eq_true rfl) dX3_thirst_4 ⟨Nat.le_of_ble_eq_true rfl, Nat.le_of_ble_eq_true rfl⟩ ⟨Nat.le_of_ble_eq_true rfl, Nat.le_of_ble_eq_true rfl⟩) hM (fun H locs b4 hM => ?_) (fun H locs b4 hM => ?_)
  · refine lv_if_eq (tgt := 19) hx hb dX3_thirst_7 (by decide) (fun cZ => absurd cZ (by decide)) (fun c7 => ?_)
    refine lv_aload_n hx hb dX3_thirst_10 rfl (lv_at hl 0 rfl) ?_
    refine lv_iconst (v := 4) hx hb dX3_thirst_11 (by decide) ?_
    refine lv_iload_n hx hb dX3_thirst_12 rfl (lv_at hl 1 rfl) ?_
    refine W.eq (g2 := F0 m_ 13 ls (.int v :: .int (nI (4)) :: [.ref y0])) (by rw [show 4 = nI (4) from rfl]) ?_
    refine k_i (r_V (As := [.int (nI 4), .int v]) (rest := []) B hM hL.1 rfl rfl (ok_becomes hL (i := 4) (by omega) v) cal_X3_becomes q1568 rfl hl.1 (Nat.le_of_ble_eq_true rfl) dX3_thirst_13 ⟨Nat.le_of_ble_eq_true rfl, Nat.le_of_ble_eq_true rfl⟩ ⟨Nat.le_of_ble_eq_true rfl, Nat.le_of_ble_eq_true rfl⟩) hM (fun r_1 ka_2 H locs p_3 hM => ?_)
    obtain ⟨rfl, ec⟩ := p_3
    refine lv_goto (tgt := 21) hx hb dX3_thirst_16 (by decide) ?_
    refine r_iret B hr hM dX3_thirst_21 ?_
    constructor
    · simp only [A_thirst, sg0, sg1, sg7, sg25, sg26, sg27, sg28, sg29, sg30, sg31, sg33, sg99] <;> grind
    · refine Rel.of ?_; rw [ec]; (simp only [S_thirst, sg0, sg1, sg7, sg25, sg26, sg27, sg28, sg29, sg30, sg31, sg33, sg99]; rw [sg_up2 ka 0]) <;> grind
  · refine lv_if_eq (tgt := 19) hx hb dX3_thirst_7 (by decide) (fun c7 => ?_) (fun cZ => absurd (by decide) cZ)
    refine lv_ldc hx hb B.2.2.2.1 (B.ts _ q1496) dX3_thirst_19 ?_
    refine r_iret B hr hM dX3_thirst_21 ?_
    constructor
    · simp only [A_thirst, sg0, sg1, sg7, sg25, sg26, sg27, sg28, sg29, sg30, sg31, sg33, sg99] <;> grind
    · refine Rel.of ?_; simp only [S_thirst, sg0, sg1, sg7, sg25, sg26, sg27, sg28, sg29, sg30, sg31, sg33, sg99] <;> grind
set_option maxHeartbeats 4000000 in
theorem ok_seed (hL : LayM th rh y0 ay) (v : Int32) : Met l yX3_seed (ws_ yX3_seed cX3_seed 2 (some .int)) (RM 2 0 0) (Pc_ G [.ref y0, .int v] th rh ph ka) (Qi G th rh ph (fun r ka' => r = A_seed (sg ka) v ∧ Rel (S_seed (sg ka) v) (sg ka'))) 0 0 (frG G) := by
  refine m_of (by decide) (Nat.le_of_ble_eq_true rfl) ?_
  intro p_ e_ s_ m_ below_ meth_ c_ B hr hnm ls hl hM
  have hx := B.1
  have hb := B.2.1
  have hM := hM
  refine lv_aload_n hx hb dX3_seed_0 rfl (lv_at hl 0 rfl) ?_
  refine lv_iconst (v := 0) hx hb dX3_seed_1 (by decide) ?_
  refine lv_iload_n hx hb dX3_seed_2 rfl (lv_at hl 1 rfl) ?_
  refine W.eq (g2 := F0 m_ 3 ls (.int v :: .int (nI (0)) :: [.ref y0])) (by rw [show 0 = nI (0) from rfl]) ?_
  refine k_i (r_V (As := [.int (nI 0), .int v]) (rest := []) B hM hL.1 rfl rfl (ok_becomes hL (i := 0) (by omega) v) cal_X3_becomes q1568 rfl hl.1 (Nat.le_of_ble_eq_true rfl) dX3_seed_3 ⟨Nat.le_of_ble_eq_true rfl, Nat.le_of_ble_eq_true rfl⟩ ⟨Nat.le_of_ble_eq_true rfl, Nat.le_of_ble_eq_true rfl⟩) hM (fun r_1 ka_2 H locs p_3 hM => ?_)
  obtain ⟨rfl, ec⟩ := p_3
  refine r_iret B hr hM dX3_seed_6 ?_
  constructor
  · simp only [A_seed, sg0, sg1, sg7, sg25, sg26, sg27, sg28, sg29, sg30, sg31, sg33, sg99] <;> grind
  · refine Rel.of ?_; rw [ec]; (simp only [S_seed, sg0, sg1, sg7, sg25, sg26, sg27, sg28, sg29, sg30, sg31, sg33, sg99]; rw [sg_up2 ka 0]) <;> grind
end
