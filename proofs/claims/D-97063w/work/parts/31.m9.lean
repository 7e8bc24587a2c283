/-! the model: more calls -/
set_option maxRecDepth 100000
section
variable {l : Launch} {G : GG} {th : Th} {rh : Rh} {ph : Ph} {ka : Ka} {y0 : Nat} {ay : Nat → Nat}
set_option maxHeartbeats 4000000 in
theorem ok_set (hL : LayM th rh y0 ay) (hR : Rok (ka 1000)) (c w v : Int32) : Met l yX3_set (ws_ yX3_set cX3_set 4 (some .int)) (RM 3 0 0) (Pc_ G [.ref y0, .int c, .int w, .int v] th rh ph ka) (Qi G th rh ph (fun r ka' => r = A_set (sg ka) c w v ∧ Rel (S_set (sg ka) c w v) (sg ka'))) 0 0 (frG G) := by
  refine m_of (by decide) (Nat.le_of_ble_eq_true rfl) ?_
  intro p_ e_ s_ m_ below_ meth_ c_ B hr hnm ls hl hM
  have hx := B.1
  have hb := B.2.1
  have hM := hM
  have h8 := hR.1.2
  have h13 := hR.2.1.2
  have h14 := hR.2.2.1.2
  refine lv_aload_n hx hb dX3_set_0 rfl (lv_at hl 0 rfl) ?_
  refine lv_iload_n hx hb dX3_set_1 rfl (lv_at hl 1 rfl) ?_
  refine k_pb (r_V (As := [.int c]) (rest := []) B hM hL.1 rfl rfl (ok_isCellar hL hR c) cal_X3_isCellar q1506 rfl hl.1 (Nat.le_of_ble_eq_true rfl) dX3_set_2 ⟨Nat.le_of_ble_eq_true rfl, Nat.le_of_ble_eq_true rfl⟩ ⟨Nat.le_of_ble_eq_true rfl, Nat.le_of_ble_eq_true rfl⟩) hM (fun H locs b2 hM => ?_) (fun H locs b2 hM => ?_)
  · obtain ⟨kc, hkc, rfl⟩ := b2
    have hinkc : inC (nI kc) (nC (ka 1000)) := (inC_iff (by omega)).mpr ⟨kc, hkc, rfl⟩
    have hclkc : cl (nI kc) = kc := cl_nI (by omega)
    refine lv_if_ne (tgt := 11) hx hb dX3_set_5 (by decide) (fun c5 => ?_) (fun cZ => absurd cZ (by decide))
    refine lv_iload_n hx hb dX3_set_11 rfl (lv_at hl 2 rfl) ?_
    refine lv_bipush (v := 8) hx hb dX3_set_12 (by decide) ?_
    refine lv_bipush (v := 10) hx hb dX3_set_14 (by decide) ?_
    refine k_pb (r_S (As := [.int w, .int 8, .int 10]) (rest := []) B hM (ok_in w 8 10) cal_X3_in q1493 rfl hl.1 (Nat.le_of_ble_eq_true rfl) dX3_set_16 ⟨Nat.le_of_ble_eq_true rfl, Nat.le_of_ble_eq_true rfl⟩ ⟨Nat.le_of_ble_eq_true rfl, Nat.le_of_ble_eq_true rfl⟩) hM (fun H locs b16 hM => ?_) (fun H locs b16 hM => ?_)
    · refine lv_if_eq (tgt := 55) hx hb dX3_set_19 (by decide) (fun cZ => absurd cZ (by decide)) (fun c19 => ?_)
      rcases in8_10 b16 with rfl | rfl | rfl
      · refine lv_iload_n hx hb dX3_set_22 rfl (lv_at hl 3 rfl) ?_
        refine lv_iconst (v := 0) hx hb dX3_set_23 (by decide) ?_
        refine lv_sipush (v := 999) hx hb dX3_set_24 (by decide) ?_
        refine k_pb (r_S (As := [.int v, .int 0, .int 999]) (rest := []) B hM (ok_in v 0 999) cal_X3_in q1493 rfl hl.1 (Nat.le_of_ble_eq_true rfl) dX3_set_27 ⟨Nat.le_of_ble_eq_true rfl, Nat.le_of_ble_eq_true rfl⟩ ⟨Nat.le_of_ble_eq_true rfl, Nat.le_of_ble_eq_true rfl⟩) hM (fun H locs b27 hM => ?_) (fun H locs b27 hM => ?_)
        · refine lv_if_eq (tgt := 52) hx hb dX3_set_30 (by decide) (fun cZ => absurd cZ (by decide)) (fun c30 => ?_)
          refine lv_aload_n hx hb dX3_set_33 rfl (lv_at hl 0 rfl) ?_
          refine lv_bipush (v := 7) hx hb dX3_set_34 (by decide) ?_
          refine lv_bipush (v := 6) hx hb dX3_set_36 (by decide) ?_
          refine lv_iload_n hx hb dX3_set_38 rfl (lv_at hl 1 rfl) ?_
          refine lv_imul hx hb dX3_set_39 ?_
          refine lv_iadd hx hb dX3_set_40 ?_
          refine lv_iload_n hx hb dX3_set_41 rfl (lv_at hl 2 rfl) ?_
          refine lv_iadd hx hb dX3_set_42 ?_
          refine lv_iconst (v := 5) hx hb dX3_set_43 (by decide) ?_
          refine lv_isub hx hb dX3_set_44 ?_
          refine lv_iload_n hx hb dX3_set_45 rfl (lv_at hl 3 rfl) ?_
          refine W.eq (g2 := F0 m_ 46 ls (.int v :: .int (nI (7 + 6 * kc + 3)) :: [.ref y0])) (by rw [show ((7 + (6 * (nI kc))) + 8) - 5 = nI (7 + 6 * kc + 3) from (by simp only [nA, nMu, nL]; grind)]) ?_
          refine k_i (r_V (As := [.int (nI (7 + 6 * kc + 3)), .int v]) (rest := []) B hM hL.1 rfl rfl (ok_becomes hL (i := 7 + 6 * kc + 3) (by omega) v) cal_X3_becomes q1568 rfl hl.1 (Nat.le_of_ble_eq_true rfl) dX3_set_46 ⟨Nat.le_of_ble_eq_true rfl, Nat.le_of_ble_eq_true rfl⟩ ⟨Nat.le_of_ble_eq_true rfl, Nat.le_of_ble_eq_true rfl⟩) hM (fun r_1 ka_2 H locs p_3 hM => ?_)
          obtain ⟨rfl, ec⟩ := p_3
          refine lv_goto (tgt := 54) hx hb dX3_set_49 (by decide) ?_
          refine r_iret B hr hM dX3_set_54 ?_
          constructor
          · simp only [A_set, setW, sg0, sg1, sg7, sg25, sg26, sg27, sg28, sg29, sg30, sg31, sg33, sg99, hclkc] <;> grind
          · refine Rel.of ?_; rw [ec]; (simp only [S_set, setW, sg0, sg1, sg7, sg25, sg26, sg27, sg28, sg29, sg30, sg31, sg33, sg99, hclkc]; rw [sg_up2 ka 0]) <;> grind
        · refine lv_if_eq (tgt := 52) hx hb dX3_set_30 (by decide) (fun c30 => ?_) (fun cZ => absurd (by decide) cZ)
          refine lv_ldc hx hb B.2.2.2.1 (B.ts _ q1496) dX3_set_52 ?_
          refine r_iret B hr hM dX3_set_54 ?_
          constructor
          · simp only [A_set, setW, sg0, sg1, sg7, sg25, sg26, sg27, sg28, sg29, sg30, sg31, sg33, sg99, hclkc] <;> grind
          · refine Rel.of ?_; simp only [S_set, setW, sg0, sg1, sg7, sg25, sg26, sg27, sg28, sg29, sg30, sg31, sg33, sg99, hclkc] <;> grind
      · refine lv_iload_n hx hb dX3_set_22 rfl (lv_at hl 3 rfl) ?_
        refine lv_iconst (v := 0) hx hb dX3_set_23 (by decide) ?_
        refine lv_sipush (v := 999) hx hb dX3_set_24 (by decide) ?_
        refine k_pb (r_S (As := [.int v, .int 0, .int 999]) (rest := []) B hM (ok_in v 0 999) cal_X3_in q1493 rfl hl.1 (Nat.le_of_ble_eq_true rfl) dX3_set_27 ⟨Nat.le_of_ble_eq_true rfl, Nat.le_of_ble_eq_true rfl⟩ ⟨Nat.le_of_ble_eq_true rfl, Nat.le_of_ble_eq_true rfl⟩) hM (fun H locs b27 hM => ?_) (fun H locs b27 hM => ?_)
        · refine lv_if_eq (tgt := 52) hx hb dX3_set_30 (by decide) (fun cZ => absurd cZ (by decide)) (fun c30 => ?_)
          refine lv_aload_n hx hb dX3_set_33 rfl (lv_at hl 0 rfl) ?_
          refine lv_bipush (v := 7) hx hb dX3_set_34 (by decide) ?_
          refine lv_bipush (v := 6) hx hb dX3_set_36 (by decide) ?_
          refine lv_iload_n hx hb dX3_set_38 rfl (lv_at hl 1 rfl) ?_
          refine lv_imul hx hb dX3_set_39 ?_
          refine lv_iadd hx hb dX3_set_40 ?_
          refine lv_iload_n hx hb dX3_set_41 rfl (lv_at hl 2 rfl) ?_
          refine lv_iadd hx hb dX3_set_42 ?_
          refine lv_iconst (v := 5) hx hb dX3_set_43 (by decide) ?_
          refine lv_isub hx hb dX3_set_44 ?_
          refine lv_iload_n hx hb dX3_set_45 rfl (lv_at hl 3 rfl) ?_
          refine W.eq (g2 := F0 m_ 46 ls (.int v :: .int (nI (7 + 6 * kc + 4)) :: [.ref y0])) (by rw [show ((7 + (6 * (nI kc))) + 9) - 5 = nI (7 + 6 * kc + 4) from (by simp only [nA, nMu, nL]; grind)]) ?_
          refine k_i (r_V (As := [.int (nI (7 + 6 * kc + 4)), .int v]) (rest := []) B hM hL.1 rfl rfl (ok_becomes hL (i := 7 + 6 * kc + 4) (by omega) v) cal_X3_becomes q1568 rfl hl.1 (Nat.le_of_ble_eq_true rfl) dX3_set_46 ⟨Nat.le_of_ble_eq_true rfl, Nat.le_of_ble_eq_true rfl⟩ ⟨Nat.le_of_ble_eq_true rfl, Nat.le_of_ble_eq_true rfl⟩) hM (fun r_4 ka_5 H locs p_6 hM => ?_)
          obtain ⟨rfl, ec⟩ := p_6
          refine lv_goto (tgt := 54) hx hb dX3_set_49 (by decide) ?_
          refine r_iret B hr hM dX3_set_54 ?_
          constructor
          · simp only [A_set, setW, sg0, sg1, sg7, sg25, sg26, sg27, sg28, sg29, sg30, sg31, sg33, sg99, hclkc] <;> grind
          · refine Rel.of ?_; rw [ec]; (simp only [S_set, setW, sg0, sg1, sg7, sg25, sg26, sg27, sg28, sg29, sg30, sg31, sg33, sg99, hclkc]; rw [sg_up2 ka 0]) <;> grind
        · refine lv_if_eq (tgt := 52) hx hb dX3_set_30 (by decide) (fun c30 => ?_) (fun cZ => absurd (by decide) cZ)
          refine lv_ldc hx hb B.2.2.2.1 (B.ts _ q1496) dX3_set_52 ?_
          refine r_iret B hr hM dX3_set_54 ?_
          constructor
          · simp only [A_set, setW, sg0, sg1, sg7, sg25, sg26, sg27, sg28, sg29, sg30, sg31, sg33, sg99, hclkc] <;> grind
          · refine Rel.of ?_; simp only [S_set, setW, sg0, sg1, sg7, sg25, sg26, sg27, sg28, sg29, sg30, sg31, sg33, sg99, hclkc] <;> grind
      · refine lv_iload_n hx hb dX3_set_22 rfl (lv_at hl 3 rfl) ?_
        refine lv_iconst (v := 0) hx hb dX3_set_23 (by decide) ?_
        refine lv_sipush (v := 999) hx hb dX3_set_24 (by decide) ?_
        refine k_pb (r_S (As := [.int v, .int 0, .int 999]) (rest := []) B hM (ok_in v 0 999) cal_X3_in q1493 rfl hl.1 (Nat.le_of_ble_eq_true rfl) dX3_set_27 ⟨Nat.le_of_ble_eq_true rfl, Nat.le_of_ble_eq_true rfl⟩ ⟨Nat.le_of_ble_eq_true rfl, Nat.le_of_ble_eq_true rfl⟩) hM (fun H locs b27 hM => ?_) (fun H locs b27 hM => ?_)
        · refine lv_if_eq (tgt := 52) hx hb dX3_set_30 (by decide) (fun cZ => absurd cZ (by decide)) (fun c30 => ?_)
          refine lv_aload_n hx hb dX3_set_33 rfl (lv_at hl 0 rfl) ?_
          refine lv_bipush (v := 7) hx hb dX3_set_34 (by decide) ?_
          refine lv_bipush (v := 6) hx hb dX3_set_36 (by decide) ?_
          refine lv_iload_n hx hb dX3_set_38 rfl (lv_at hl 1 rfl) ?_
          refine lv_imul hx hb dX3_set_39 ?_
          refine lv_iadd hx hb dX3_set_40 ?_
          refine lv_iload_n hx hb dX3_set_41 rfl (lv_at hl 2 rfl) ?_
          refine lv_iadd hx hb dX3_set_42 ?_
          refine lv_iconst (v := 5) hx hb dX3_set_43 (by decide) ?_
          refine lv_isub hx hb dX3_set_44 ?_
          refine lv_iload_n hx hb dX3_set_45 rfl (lv_at hl 3 rfl) ?_
          refine W.eq (g2 := F0 m_ 46 ls (.int v :: .int (nI (7 + 6 * kc + 5)) :: [.ref y0])) (by rw [show ((7 + (6 * (nI kc))) + 10) - 5 = nI (7 + 6 * kc + 5) from (by simp only [nA, nMu, nL]; grind)]) ?_
          refine k_i (r_V (As := [.int (nI (7 + 6 * kc + 5)), .int v]) (rest := []) B hM hL.1 rfl rfl (ok_becomes hL (i := 7 + 6 * kc + 5) (by omega) v) cal_X3_becomes q1568 rfl hl.1 (Nat.le_of_ble_eq_true rfl) dX3_set_46 ⟨Nat.le_of_ble_eq_true rfl, Nat.le_of_ble_eq_true rfl⟩ ⟨Nat.le_of_ble_eq_true rfl, Nat.le_of_ble_eq_true rfl⟩) hM (fun r_7 ka_8 H locs p_9 hM => ?_)
          obtain ⟨rfl, ec⟩ := p_9
          refine lv_goto (tgt := 54) hx hb dX3_set_49 (by decide) ?_
          refine r_iret B hr hM dX3_set_54 ?_
          constructor
          · simp only [A_set, setW, sg0, sg1, sg7, sg25, sg26, sg27, sg28, sg29, sg30, sg31, sg33, sg99, hclkc] <;> grind
          · refine Rel.of ?_; rw [ec]; (simp only [S_set, setW, sg0, sg1, sg7, sg25, sg26, sg27, sg28, sg29, sg30, sg31, sg33, sg99, hclkc]; rw [sg_up2 ka 0]) <;> grind
        · refine lv_if_eq (tgt := 52) hx hb dX3_set_30 (by decide) (fun c30 => ?_) (fun cZ => absurd (by decide) cZ)
          refine lv_ldc hx hb B.2.2.2.1 (B.ts _ q1496) dX3_set_52 ?_
          refine r_iret B hr hM dX3_set_54 ?_
          constructor
          · simp only [A_set, setW, sg0, sg1, sg7, sg25, sg26, sg27, sg28, sg29, sg30, sg31, sg33, sg99, hclkc] <;> grind
          · refine Rel.of ?_; simp only [S_set, setW, sg0, sg1, sg7, sg25, sg26, sg27, sg28, sg29, sg30, sg31, sg33, sg99, hclkc] <;> grind
    · refine lv_if_eq (tgt := 55) hx hb dX3_set_19 (by decide) (fun c19 => ?_) (fun cZ => absurd (by decide) cZ)
      refine lv_iload_n hx hb dX3_set_55 rfl (lv_at hl 2 rfl) ?_
      refine lv_iconst (v := 1) hx hb dX3_set_56 (by decide) ?_
      refine lv_iconst (v := 2) hx hb dX3_set_57 (by decide) ?_
      refine k_pb (r_S (As := [.int w, .int 1, .int 2]) (rest := []) B hM (ok_in w 1 2) cal_X3_in q1493 rfl hl.1 (Nat.le_of_ble_eq_true rfl) dX3_set_58 ⟨Nat.le_of_ble_eq_true rfl, Nat.le_of_ble_eq_true rfl⟩ ⟨Nat.le_of_ble_eq_true rfl, Nat.le_of_ble_eq_true rfl⟩) hM (fun H locs b58 hM => ?_) (fun H locs b58 hM => ?_)
      · refine lv_if_eq (tgt := 93) hx hb dX3_set_61 (by decide) (fun cZ => absurd cZ (by decide)) (fun c61 => ?_)
        rcases in1_2 b58 with rfl | rfl
        · refine lv_iload_n hx hb dX3_set_64 rfl (lv_at hl 3 rfl) ?_
          refine lv_iload_n hx hb dX3_set_65 rfl (lv_at hl 2 rfl) ?_
          refine lv_iconst (v := 1) hx hb dX3_set_66 (by decide) ?_
          refine lv_isub hx hb dX3_set_67 ?_
          refine W.eq (g2 := F0 m_ 68 ls (.int 0 :: [.int v])) rfl ?_
          refine lv_bipush (v := 99) hx hb dX3_set_68 (by decide) ?_
          refine k_pb (r_S (As := [.int v, .int 0, .int 99]) (rest := []) B hM (ok_in v 0 99) cal_X3_in q1493 rfl hl.1 (Nat.le_of_ble_eq_true rfl) dX3_set_70 ⟨Nat.le_of_ble_eq_true rfl, Nat.le_of_ble_eq_true rfl⟩ ⟨Nat.le_of_ble_eq_true rfl, Nat.le_of_ble_eq_true rfl⟩) hM (fun H locs b70 hM => ?_) (fun H locs b70 hM => ?_)
          · refine lv_if_eq (tgt := 93) hx hb dX3_set_73 (by decide) (fun cZ => absurd cZ (by decide)) (fun c73 => ?_)
            refine lv_aload_n hx hb dX3_set_76 rfl (lv_at hl 0 rfl) ?_
            refine lv_bipush (v := 7) hx hb dX3_set_77 (by decide) ?_
            refine lv_bipush (v := 6) hx hb dX3_set_79 (by decide) ?_
            refine lv_iload_n hx hb dX3_set_81 rfl (lv_at hl 1 rfl) ?_
            refine lv_imul hx hb dX3_set_82 ?_
            refine lv_iadd hx hb dX3_set_83 ?_
            refine lv_iload_n hx hb dX3_set_84 rfl (lv_at hl 2 rfl) ?_
            refine lv_iadd hx hb dX3_set_85 ?_
            refine lv_iload_n hx hb dX3_set_86 rfl (lv_at hl 3 rfl) ?_
            refine W.eq (g2 := F0 m_ 87 ls (.int v :: .int (nI (7 + 6 * kc + 1)) :: [.ref y0])) (by rw [show (7 + (6 * (nI kc))) + 1 = nI (7 + 6 * kc + 1) from (by simp only [nA, nMu, nL])]) ?_
            refine k_i (r_V (As := [.int (nI (7 + 6 * kc + 1)), .int v]) (rest := []) B hM hL.1 rfl rfl (ok_becomes hL (i := 7 + 6 * kc + 1) (by omega) v) cal_X3_becomes q1568 rfl hl.1 (Nat.le_of_ble_eq_true rfl) dX3_set_87 ⟨Nat.le_of_ble_eq_true rfl, Nat.le_of_ble_eq_true rfl⟩ ⟨Nat.le_of_ble_eq_true rfl, Nat.le_of_ble_eq_true rfl⟩) hM (fun r_10 ka_11 H locs p_12 hM => ?_)
            obtain ⟨rfl, ec⟩ := p_12
            refine lv_goto (tgt := 95) hx hb dX3_set_90 (by decide) ?_
            refine r_iret B hr hM dX3_set_95 ?_
            constructor
            · simp only [A_set, setW, sg0, sg1, sg7, sg25, sg26, sg27, sg28, sg29, sg30, sg31, sg33, sg99, hclkc] <;> grind
            · refine Rel.of ?_; rw [ec]; (simp only [S_set, setW, sg0, sg1, sg7, sg25, sg26, sg27, sg28, sg29, sg30, sg31, sg33, sg99, hclkc]; rw [sg_up2 ka 0]) <;> grind
          · refine lv_if_eq (tgt := 93) hx hb dX3_set_73 (by decide) (fun c73 => ?_) (fun cZ => absurd (by decide) cZ)
            refine lv_ldc hx hb B.2.2.2.1 (B.ts _ q1496) dX3_set_93 ?_
            refine r_iret B hr hM dX3_set_95 ?_
            constructor
            · simp only [A_set, setW, sg0, sg1, sg7, sg25, sg26, sg27, sg28, sg29, sg30, sg31, sg33, sg99, hclkc] <;> grind
            · refine Rel.of ?_; simp only [S_set, setW, sg0, sg1, sg7, sg25, sg26, sg27, sg28, sg29, sg30, sg31, sg33, sg99, hclkc] <;> grind
        · refine lv_iload_n hx hb dX3_set_64 rfl (lv_at hl 3 rfl) ?_
          refine lv_iload_n hx hb dX3_set_65 rfl (lv_at hl 2 rfl) ?_
          refine lv_iconst (v := 1) hx hb dX3_set_66 (by decide) ?_
          refine lv_isub hx hb dX3_set_67 ?_
          refine W.eq (g2 := F0 m_ 68 ls (.int 1 :: [.int v])) rfl ?_
          refine lv_bipush (v := 99) hx hb dX3_set_68 (by decide) ?_
          refine k_pb (r_S (As := [.int v, .int 1, .int 99]) (rest := []) B hM (ok_in v 1 99) cal_X3_in q1493 rfl hl.1 (Nat.le_of_ble_eq_true rfl) dX3_set_70 ⟨Nat.le_of_ble_eq_true rfl, Nat.le_of_ble_eq_true rfl⟩ ⟨Nat.le_of_ble_eq_true rfl, Nat.le_of_ble_eq_true rfl⟩) hM (fun H locs b70 hM => ?_) (fun H locs b70 hM => ?_)
          · refine lv_if_eq (tgt := 93) hx hb dX3_set_73 (by decide) (fun cZ => absurd cZ (by decide)) (fun c73 => ?_)
            refine lv_aload_n hx hb dX3_set_76 rfl (lv_at hl 0 rfl) ?_
            refine lv_bipush (v := 7) hx hb dX3_set_77 (by decide) ?_
            refine lv_bipush (v := 6) hx hb dX3_set_79 (by decide) ?_
            refine lv_iload_n hx hb dX3_set_81 rfl (lv_at hl 1 rfl) ?_
            refine lv_imul hx hb dX3_set_82 ?_
            refine lv_iadd hx hb dX3_set_83 ?_
            refine lv_iload_n hx hb dX3_set_84 rfl (lv_at hl 2 rfl) ?_
            refine lv_iadd hx hb dX3_set_85 ?_
            refine lv_iload_n hx hb dX3_set_86 rfl (lv_at hl 3 rfl) ?_
            refine W.eq (g2 := F0 m_ 87 ls (.int v :: .int (nI (7 + 6 * kc + 2)) :: [.ref y0])) (by rw [show (7 + (6 * (nI kc))) + 2 = nI (7 + 6 * kc + 2) from (by simp only [nA, nMu, nL])]) ?_
            refine k_i (r_V (As := [.int (nI (7 + 6 * kc + 2)), .int v]) (rest := []) B hM hL.1 rfl rfl (ok_becomes hL (i := 7 + 6 * kc + 2) (by omega) v) cal_X3_becomes q1568 rfl hl.1 (Nat.le_of_ble_eq_true rfl) dX3_set_87 ⟨Nat.le_of_ble_eq_true rfl, Nat.le_of_ble_eq_true rfl⟩ ⟨Nat.le_of_ble_eq_true rfl, Nat.le_of_ble_eq_true rfl⟩) hM (fun r_13 ka_14 H locs p_15 hM => ?_)
            obtain ⟨rfl, ec⟩ := p_15
            refine lv_goto (tgt := 95) hx hb dX3_set_90 (by decide) ?_
            refine r_iret B hr hM dX3_set_95 ?_
            constructor
            · simp only [A_set, setW, sg0, sg1, sg7, sg25, sg26, sg27, sg28, sg29, sg30, sg31, sg33, sg99, hclkc] <;> grind
            · refine Rel.of ?_; rw [ec]; (simp only [S_set, setW, sg0, sg1, sg7, sg25, sg26, sg27, sg28, sg29, sg30, sg31, sg33, sg99, hclkc]; rw [sg_up2 ka 0]) <;> grind
          · refine lv_if_eq (tgt := 93) hx hb dX3_set_73 (by decide) (fun c73 => ?_) (fun cZ => absurd (by decide) cZ)
            refine lv_ldc hx hb B.2.2.2.1 (B.ts _ q1496) dX3_set_93 ?_
            refine r_iret B hr hM dX3_set_95 ?_
            constructor
            · simp only [A_set, setW, sg0, sg1, sg7, sg25, sg26, sg27, sg28, sg29, sg30, sg31, sg33, sg99, hclkc] <;> grind
            · refine Rel.of ?_; simp only [S_set, setW, sg0, sg1, sg7, sg25, sg26, sg27, sg28, sg29, sg30, sg31, sg33, sg99, hclkc] <;> grind
      · refine lv_if_eq (tgt := 93) hx hb dX3_set_61 (by decide) (fun c61 => ?_) (fun cZ => absurd (by decide) cZ)
        refine lv_ldc hx hb B.2.2.2.1 (B.ts _ q1496) dX3_set_93 ?_
        refine r_iret B hr hM dX3_set_95 ?_
        constructor
        · simp only [A_set, setW, sg0, sg1, sg7, sg25, sg26, sg27, sg28, sg29, sg30, sg31, sg33, sg99, hclkc] <;> grind
        · refine Rel.of ?_; simp only [S_set, setW, sg0, sg1, sg7, sg25, sg26, sg27, sg28, sg29, sg30, sg31, sg33, sg99, hclkc] <;> grind
  · refine lv_if_ne (tgt := 11) hx hb dX3_set_5 (by decide) (fun cZ => absurd (by decide) cZ) (fun c5 => ?_)
    refine lv_ldc hx hb B.2.2.2.1 (B.ts _ q1496) dX3_set_8 ?_
    refine r_iret B hr hM dX3_set_10 ?_
    have ib2 := mt (inC_iff (n := nC (ka 1000)) (by omega)).mp b2
    constructor
    · simp only [A_set, setW, sg0, sg1, sg7, sg25, sg26, sg27, sg28, sg29, sg30, sg31, sg33, sg99] <;> grind
    · refine Rel.of ?_; simp only [S_set, setW, sg0, sg1, sg7, sg25, sg26, sg27, sg28, sg29, sg30, sg31, sg33, sg99] <;> grind
set_option maxHeartbeats 4000000 in
theorem ok_pipe (hL : LayM th rh y0 ay) (hR : Rok (ka 1000)) (h12 : nP (ka 1000) ≤ 12) (a b w : Int32) : Met l yX3_pipe (ws_ yX3_pipe cX3_pipe 4 (some .int)) (RM 3 0 0) (Pc_ G [.ref y0, .int a, .int b, .int w] th rh ph ka) (Qi G th rh ph (fun r ka' => r = A_pipe (sg ka) a b w ∧ Rel (S_pipe (sg ka) a b w) (sg ka'))) 0 0 (frG G) := by
  refine m_of (by decide) (Nat.le_of_ble_eq_true rfl) ?_
  intro p_ e_ s_ m_ below_ meth_ c_ B hr hnm ls hl hM
  have hx := B.1
  have hb := B.2.1
  have hM := hM
  have h8 := hR.1.2
  have h13 := hR.2.1.2
  have h14 := hR.2.2.1.2
  refine lv_aload_n hx hb dX3_pipe_0 rfl (lv_at hl 0 rfl) ?_
  refine lv_iload_n hx hb dX3_pipe_1 rfl (lv_at hl 1 rfl) ?_
  refine k_pb (r_V (As := [.int a]) (rest := []) B hM hL.1 rfl rfl (ok_isCellar hL hR a) cal_X3_isCellar q1506 rfl hl.1 (Nat.le_of_ble_eq_true rfl) dX3_pipe_2 ⟨Nat.le_of_ble_eq_true rfl, Nat.le_of_ble_eq_true rfl⟩ ⟨Nat.le_of_ble_eq_true rfl, Nat.le_of_ble_eq_true rfl⟩) hM (fun H locs b2 hM => ?_) (fun H locs b2 hM => ?_)
  · obtain ⟨ka0, hka0, rfl⟩ := b2
    have hinka0 : inC (nI ka0) (nC (ka 1000)) := (inC_iff (by omega)).mpr ⟨ka0, hka0, rfl⟩
    have hclka0 : cl (nI ka0) = ka0 := cl_nI (by omega)
    refine lv_if_eq (tgt := 31) hx hb dX3_pipe_5 (by decide) (fun cZ => absurd cZ (by decide)) (fun c5 => ?_)
    refine lv_aload_n hx hb dX3_pipe_8 rfl (lv_at hl 0 rfl) ?_
    refine lv_iload_n hx hb dX3_pipe_9 rfl (lv_at hl 2 rfl) ?_
    refine k_pb (r_V (As := [.int b]) (rest := []) B hM hL.1 rfl rfl (ok_isCellar hL hR b) cal_X3_isCellar q1506 rfl hl.1 (Nat.le_of_ble_eq_true rfl) dX3_pipe_10 ⟨Nat.le_of_ble_eq_true rfl, Nat.le_of_ble_eq_true rfl⟩ ⟨Nat.le_of_ble_eq_true rfl, Nat.le_of_ble_eq_true rfl⟩) hM (fun H locs b10 hM => ?_) (fun H locs b10 hM => ?_)
    · obtain ⟨kb0, hkb0, rfl⟩ := b10
      have hinkb0 : inC (nI kb0) (nC (ka 1000)) := (inC_iff (by omega)).mpr ⟨kb0, hkb0, rfl⟩
      have hclkb0 : cl (nI kb0) = kb0 := cl_nI (by omega)
      refine lv_if_eq (tgt := 31) hx hb dX3_pipe_13 (by decide) (fun cZ => absurd cZ (by decide)) (fun c13 => ?_)
      refine lv_iload_n hx hb dX3_pipe_16 rfl (lv_at hl 1 rfl) ?_
      refine lv_iload_n hx hb dX3_pipe_17 rfl (lv_at hl 2 rfl) ?_
      refine lv_icmp_eq (tgt := 31) hx hb dX3_pipe_18 (by decide) (fun c18 => ?_) (fun c18 => ?_)
      · have n18 : ka0 = kb0 := ntEq rfl rfl (by omega) (by omega) c18
        refine lv_ldc hx hb B.2.2.2.1 (B.ts _ q1496) dX3_pipe_31 ?_
        refine r_iret B hr hM dX3_pipe_33 ?_
        constructor
        · simp only [A_pipe, badP, sg0, sg1, sg7, sg25, sg26, sg27, sg28, sg29, sg30, sg31, sg33, sg99, hclka0, hclkb0] <;> grind
        · refine Rel.of ?_; simp only [S_pipe, badP, sg0, sg1, sg7, sg25, sg26, sg27, sg28, sg29, sg30, sg31, sg33, sg99, hclka0, hclkb0] <;> grind
      · have n18 : ka0 ≠ kb0 := ntNe rfl rfl (by omega) (by omega) c18
        refine lv_iload_n hx hb dX3_pipe_21 rfl (lv_at hl 3 rfl) ?_
        refine lv_iconst (v := 1) hx hb dX3_pipe_22 (by decide) ?_
        refine lv_bipush (v := 9) hx hb dX3_pipe_23 (by decide) ?_
        refine k_pb (r_S (As := [.int w, .int 1, .int 9]) (rest := []) B hM (ok_in w 1 9) cal_X3_in q1493 rfl hl.1 (Nat.le_of_ble_eq_true rfl) dX3_pipe_25 ⟨Nat.le_of_ble_eq_true rfl, Nat.le_of_ble_eq_true rfl⟩ ⟨Nat.le_of_ble_eq_true rfl, Nat.le_of_ble_eq_true rfl⟩) hM (fun H locs b25 hM => ?_) (fun H locs b25 hM => ?_)
        · refine lv_if_ne (tgt := 34) hx hb dX3_pipe_28 (by decide) (fun c28 => ?_) (fun cZ => absurd cZ (by decide))
          refine lv_aload_n hx hb dX3_pipe_34 rfl (lv_at hl 0 rfl) ?_
          refine r_getq B hM 0 hL.1 rfl (by decide) rfl rfl (hL.2 0 _ _ rfl).1 q1382 dX3_pipe_35 ?_
          refine lv_iconst (v := 2) hx hb dX3_pipe_38 (by decide) ?_
          refine r_ild B hM 2 (hL.2 0 _ _ rfl).2 rfl (by decide) (by decide) dX3_pipe_39 ?_
          refine lv_bipush (v := 12) hx hb dX3_pipe_40 (by decide) ?_
          refine lv_icmp_ne (tgt := 48) hx hb dX3_pipe_42 (by decide) (fun c42 => ?_) (fun c42 => ?_)
          · have n42 : nP (ka 1000) ≠ 12 := ntNe (by rw [hR.2.1.1]) rfl (by omega) (by omega) c42
            refine lv_aload_n hx hb dX3_pipe_48 rfl (lv_at hl 0 rfl) ?_
            refine lv_aload_n hx hb dX3_pipe_49 rfl (lv_at hl 0 rfl) ?_
            refine r_getq B hM 0 hL.1 rfl (by decide) rfl rfl (hL.2 0 _ _ rfl).1 q1382 dX3_pipe_50 ?_
            refine lv_iconst (v := 2) hx hb dX3_pipe_53 (by decide) ?_
            refine r_ild B hM 2 (hL.2 0 _ _ rfl).2 rfl (by decide) (by decide) dX3_pipe_54 ?_
            refine lv_iload_n hx hb dX3_pipe_55 rfl (lv_at hl 1 rfl) ?_
            refine lv_iload_n hx hb dX3_pipe_56 rfl (lv_at hl 2 rfl) ?_
            refine lv_iload_n hx hb dX3_pipe_57 rfl (lv_at hl 3 rfl) ?_
            refine W.eq (g2 := F0 m_ 58 ls [.int w, .int (nI kb0), .int (nI ka0), .int (nI (nP (ka 1000))), .ref y0]) (by rw [hR.2.1.1]) ?_
            refine k_v (r_V (As := [.int (nI (nP (ka 1000))), .int (nI ka0), .int (nI kb0), .int w]) (rest := []) B hM hL.1 rfl rfl (ok_lays hL (q := nP (ka 1000)) (by omega) (nI ka0) (nI kb0) w) cal_X3_lays q1580 rfl hl.1 (Nat.le_of_ble_eq_true rfl) dX3_pipe_58 ⟨Nat.le_of_ble_eq_true rfl, Nat.le_of_ble_eq_true rfl⟩ ⟨Nat.le_of_ble_eq_true rfl, Nat.le_of_ble_eq_true rfl⟩) hM (fun ka_1 H locs p_2 hM => ?_)
            have el := p_2
            have e2 : ka_1 1000 2 = ka 1000 2 := by rw [el, up1_s]; unfold layT; rw [if_neg (by omega), if_neg (by omega), if_neg (by omega), if_neg (by omega)]
            refine lv_aload_n hx hb dX3_pipe_61 rfl (lv_at hl 0 rfl) ?_
            refine r_getq B hM 0 hL.1 rfl (by decide) rfl rfl (hL.2 0 _ _ rfl).1 q1382 dX3_pipe_62 ?_
            refine lv_iconst (v := 2) hx hb dX3_pipe_65 (by decide) ?_
            refine lv_dup2_11 hx hb dX3_pipe_66 rfl rfl ?_
            refine r_ild B hM 2 (hL.2 0 _ _ rfl).2 rfl (by decide) (by decide) dX3_pipe_67 ?_
            refine r_topv (v := ka 1000 2) e2 ?_
            refine lv_iconst (v := 1) hx hb dX3_pipe_68 (by decide) ?_
            refine lv_iadd hx hb dX3_pipe_69 ?_
            refine r_ist B hM 2 (hL.2 0 _ _ rfl).2 rfl (by decide) (by decide) dX3_pipe_70 (fun ka_3 H locs eka_3 hM => ?_)
            refine lv_aload_n hx hb dX3_pipe_71 rfl (lv_at hl 0 rfl) ?_
            refine r_getq B hM 0 hL.1 rfl (by decide) rfl rfl (hL.2 0 _ _ rfl).1 q1382 dX3_pipe_72 ?_
            refine lv_iconst (v := 2) hx hb dX3_pipe_75 (by decide) ?_
            refine r_ild B hM 2 (hL.2 0 _ _ rfl).2 rfl (by decide) (by decide) dX3_pipe_76 ?_
            refine r_topv (v := ka 1000 2 + 1) (by rw [eka_3, up2_s]) ?_
            refine lv_iconst (v := 1) hx hb dX3_pipe_77 (by decide) ?_
            refine lv_isub hx hb dX3_pipe_78 ?_
            refine r_iret B hr hM dX3_pipe_79 ?_
            have hg : ¬ badP (sg ka) (nI ka0) (nI kb0) w := by simp only [badP, sg0]; grind
            constructor
            · simp only [A_pipe]; rw [if_neg hg]; simp only [sg0]; grind
            · refine Rel.of ?_
              simp only [S_pipe]; rw [if_neg hg, if_neg (by exact c42)]
              rw [eka_3, sg_up2 _ 0, el, sg_up1 _ 0]
              funext j i
              by_cases hj : j = 0
              · subst hj; rw [up1_s, up2_row, up1_s]; rfl
              · rw [up1_a _ _ hj, up2_a _ _ _ hj, up1_a _ _ hj]
          · have n42 : nP (ka 1000) = 12 := ntEq (by rw [hR.2.1.1]) rfl (by omega) (by omega) c42
            refine lv_ldc hx hb B.2.2.2.1 (B.ts _ q1497) dX3_pipe_45 ?_
            refine r_iret B hr hM dX3_pipe_47 ?_
            constructor
            · simp only [A_pipe, badP, sg0, sg1, sg7, sg25, sg26, sg27, sg28, sg29, sg30, sg31, sg33, sg99, hclka0, hclkb0] <;> grind
            · refine Rel.of ?_; simp only [S_pipe, badP, sg0, sg1, sg7, sg25, sg26, sg27, sg28, sg29, sg30, sg31, sg33, sg99, hclka0, hclkb0] <;> grind
        · refine lv_if_ne (tgt := 34) hx hb dX3_pipe_28 (by decide) (fun cZ => absurd (by decide) cZ) (fun c28 => ?_)
          refine lv_ldc hx hb B.2.2.2.1 (B.ts _ q1496) dX3_pipe_31 ?_
          refine r_iret B hr hM dX3_pipe_33 ?_
          constructor
          · simp only [A_pipe, badP, sg0, sg1, sg7, sg25, sg26, sg27, sg28, sg29, sg30, sg31, sg33, sg99, hclka0, hclkb0] <;> grind
          · refine Rel.of ?_; simp only [S_pipe, badP, sg0, sg1, sg7, sg25, sg26, sg27, sg28, sg29, sg30, sg31, sg33, sg99, hclka0, hclkb0] <;> grind
    · refine lv_if_eq (tgt := 31) hx hb dX3_pipe_13 (by decide) (fun c13 => ?_) (fun cZ => absurd (by decide) cZ)
      refine lv_ldc hx hb B.2.2.2.1 (B.ts _ q1496) dX3_pipe_31 ?_
      refine r_iret B hr hM dX3_pipe_33 ?_
      have ib10 := mt (inC_iff (n := nC (ka 1000)) (by omega)).mp b10
      constructor
      · simp only [A_pipe, badP, sg0, sg1, sg7, sg25, sg26, sg27, sg28, sg29, sg30, sg31, sg33, sg99, hclka0] <;> grind
      · refine Rel.of ?_; simp only [S_pipe, badP, sg0, sg1, sg7, sg25, sg26, sg27, sg28, sg29, sg30, sg31, sg33, sg99, hclka0] <;> grind
  · refine lv_if_eq (tgt := 31) hx hb dX3_pipe_5 (by decide) (fun c5 => ?_) (fun cZ => absurd (by decide) cZ)
    refine lv_ldc hx hb B.2.2.2.1 (B.ts _ q1496) dX3_pipe_31 ?_
    refine r_iret B hr hM dX3_pipe_33 ?_
    have ib2 := mt (inC_iff (n := nC (ka 1000)) (by omega)).mp b2
    constructor
    · simp only [A_pipe, badP, sg0, sg1, sg7, sg25, sg26, sg27, sg28, sg29, sg30, sg31, sg33, sg99] <;> grind
    · refine Rel.of ?_; simp only [S_pipe, badP, sg0, sg1, sg7, sg25, sg26, sg27, sg28, sg29, sg30, sg31, sg33, sg99] <;> grind
set_option maxHeartbeats 4000000 in
theorem ok_pipeOf (hL : LayM th rh y0 ay) (hR : Rok (ka 1000)) (q w : Int32) : Met l yX3_pipeOf (ws_ yX3_pipeOf cX3_pipeOf 3 (some .int)) (RM 7 0 0) (Pc_ G [.ref y0, .int q, .int w] th rh ph ka) (Qi G th rh ph (fun r ka' => r = A_pipeOf (sg ka) q w ∧ Rel (sg ka) (sg ka'))) 0 0 (frG G) := by
  refine m_of (by decide) (Nat.le_of_ble_eq_true rfl) ?_
  intro p_ e_ s_ m_ below_ meth_ c_ B hr hnm ls hl hM
  have hx := B.1
  have hb := B.2.1
  have hM := hM
  have h8 := hR.1.2
  have h13 := hR.2.1.2
  have h14 := hR.2.2.1.2
  refine lv_aload_n hx hb dX3_pipeOf_0 rfl (lv_at hl 0 rfl) ?_
  refine lv_iload_n hx hb dX3_pipeOf_1 rfl (lv_at hl 1 rfl) ?_
  refine k_pb (r_V (As := [.int q]) (rest := []) B hM hL.1 rfl rfl (ok_isPipe hL hR q) cal_X3_isPipe q1588 rfl hl.1 (Nat.le_of_ble_eq_true rfl) dX3_pipeOf_2 ⟨Nat.le_of_ble_eq_true rfl, Nat.le_of_ble_eq_true rfl⟩ ⟨Nat.le_of_ble_eq_true rfl, Nat.le_of_ble_eq_true rfl⟩) hM (fun H locs b2 hM => ?_) (fun H locs b2 hM => ?_)
  · obtain ⟨kq, hkq, rfl⟩ := b2
    have hinkq : inC (nI kq) (nP (ka 1000)) := (inC_iff (by omega)).mpr ⟨kq, hkq, rfl⟩
    have hclkq : cl (nI kq) = kq := cl_nI (by omega)
    refine lv_if_eq (tgt := 17) hx hb dX3_pipeOf_5 (by decide) (fun cZ => absurd cZ (by decide)) (fun c5 => ?_)
    refine lv_iload_n hx hb dX3_pipeOf_8 rfl (lv_at hl 2 rfl) ?_
    refine lv_iconst (v := 0) hx hb dX3_pipeOf_9 (by decide) ?_
    refine lv_iconst (v := 4) hx hb dX3_pipeOf_10 (by decide) ?_
    refine k_pb (r_S (As := [.int w, .int 0, .int 4]) (rest := []) B hM (ok_in w 0 4) cal_X3_in q1493 rfl hl.1 (Nat.le_of_ble_eq_true rfl) dX3_pipeOf_11 ⟨Nat.le_of_ble_eq_true rfl, Nat.le_of_ble_eq_true rfl⟩ ⟨Nat.le_of_ble_eq_true rfl, Nat.le_of_ble_eq_true rfl⟩) hM (fun H locs b11 hM => ?_) (fun H locs b11 hM => ?_)
    · refine lv_if_ne (tgt := 20) hx hb dX3_pipeOf_14 (by decide) (fun c14 => ?_) (fun cZ => absurd cZ (by decide))
      refine lv_iload_n hx hb dX3_pipeOf_20 rfl (lv_at hl 2 rfl) ?_
      refine lv_iconst (v := 4) hx hb dX3_pipeOf_21 (by decide) ?_
      refine lv_icmp_ne (tgt := 33) hx hb dX3_pipeOf_22 (by decide) (fun c22 => ?_) (fun c22 => ?_)
      · obtain ⟨kw, _, hkw4, rfl⟩ := (btw_iff (a := 0) (b := 4) (by decide) (by decide)).mp b11
        have hclkw : cl (nI kw) = kw := cl_nI (by omega)
        have hkw : kw ≠ 4 := fun z => c22 (by rw [z]; rfl)
        refine lv_aload_n hx hb dX3_pipeOf_33 rfl (lv_at hl 0 rfl) ?_
        refine lv_iload_n hx hb dX3_pipeOf_34 rfl (lv_at hl 1 rfl) ?_
        refine lv_iload_n hx hb dX3_pipeOf_35 rfl (lv_at hl 2 rfl) ?_
        refine k_pe (v := ka 1000 (55 + 4 * kq + kw)) (r_V (As := [.int (nI kq), .int (nI kw)]) (rest := []) B hM hL.1 rfl rfl (ok_at hL (c := kq) (w := kw) (by omega) (by omega)) cal_X3_at q1596 rfl hl.1 (Nat.le_of_ble_eq_true rfl) dX3_pipeOf_36 ⟨Nat.le_of_ble_eq_true rfl, Nat.le_of_ble_eq_true rfl⟩ ⟨Nat.le_of_ble_eq_true rfl, Nat.le_of_ble_eq_true rfl⟩) hM (fun H locs hM => ?_)
        refine r_iret B hr hM dX3_pipeOf_39 ?_
        constructor
        · simp only [A_pipeOf, sg0, sg1, sg7, sg25, sg26, sg27, sg28, sg29, sg30, sg31, sg33, sg99, hclkq, hclkw] <;> grind
        · exact Rel.refl
      · refine lv_aload_n hx hb dX3_pipeOf_25 rfl (lv_at hl 0 rfl) ?_
        refine lv_iload_n hx hb dX3_pipeOf_26 rfl (lv_at hl 1 rfl) ?_
        refine k_i (r_V (As := [.int (nI kq)]) (rest := []) B hM hL.1 rfl rfl (ok_runsIn hL hR (q := kq) (by omega)) cal_X3_runsIn q1592 rfl hl.1 (Nat.le_of_ble_eq_true rfl) dX3_pipeOf_27 ⟨Nat.le_of_ble_eq_true rfl, Nat.le_of_ble_eq_true rfl⟩ ⟨Nat.le_of_ble_eq_true rfl, Nat.le_of_ble_eq_true rfl⟩) hM (fun r_1 ka_2 H locs p_3 hM => ?_)
        obtain ⟨rfl, hq⟩ := p_3
        have hB_2 : But [1023, 1024] ka ka_2 := But.trans But.refl (But.mono hq (by decide))
        refine lv_goto (tgt := 39) hx hb dX3_pipeOf_30 (by decide) ?_
        refine r_iret B hr hM dX3_pipeOf_39 ?_
        constructor
        · simp only [A_pipeOf, sg0, sg1, sg7, sg25, sg26, sg27, sg28, sg29, sg30, sg31, sg33, sg99, hclkq] <;> grind
        · exact But.rel hB_2 (by decide)
    · refine lv_if_ne (tgt := 20) hx hb dX3_pipeOf_14 (by decide) (fun cZ => absurd (by decide) cZ) (fun c14 => ?_)
      refine lv_ldc hx hb B.2.2.2.1 (B.ts _ q1496) dX3_pipeOf_17 ?_
      refine r_iret B hr hM dX3_pipeOf_19 ?_
      constructor
      · simp only [A_pipeOf, sg0, sg1, sg7, sg25, sg26, sg27, sg28, sg29, sg30, sg31, sg33, sg99, hclkq] <;> grind
      · exact Rel.refl
  · refine lv_if_eq (tgt := 17) hx hb dX3_pipeOf_5 (by decide) (fun c5 => ?_) (fun cZ => absurd (by decide) cZ)
    refine lv_ldc hx hb B.2.2.2.1 (B.ts _ q1496) dX3_pipeOf_17 ?_
    refine r_iret B hr hM dX3_pipeOf_19 ?_
    have ib2 := mt (inC_iff (n := nP (ka 1000)) (by omega)).mp b2
    constructor
    · simp only [A_pipeOf, sg0, sg1, sg7, sg25, sg26, sg27, sg28, sg29, sg30, sg31, sg33, sg99] <;> grind
    · exact Rel.refl
set_option maxHeartbeats 4000000 in
theorem ok_hours (hL : LayM th rh y0 ay) (hR : Rok (ka 1000)) (n : Int32) : Met l yX3_hours (ws_ yX3_hours cX3_hours 3 (some .int)) (RM 10 0 0) (Pc_ G [.ref y0, .int n] th rh ph ka) (Qi G th rh ph (fun r ka' => r = A_hours (sg ka) n ∧ Rel (S_hours (sg ka) n) (sg ka'))) 0 0 (frG G) := by
  refine m_of (by decide) (Nat.le_of_ble_eq_true rfl) ?_
  intro p_ e_ s_ m_ below_ meth_ c_ B hr hnm ls hl hM
  have hx := B.1
  have hb := B.2.1
  have hM := hM
  refine lv_iload_n hx hb dX3_hours_0 rfl (lv_at hl 1 rfl) ?_
  refine lv_iconst (v := 1) hx hb dX3_hours_1 (by decide) ?_
  refine lv_bipush (v := 100) hx hb dX3_hours_2 (by decide) ?_
  refine k_pb (r_S (As := [.int n, .int 1, .int 100]) (rest := []) B hM (ok_in n 1 100) cal_X3_in q1493 rfl hl.1 (Nat.le_of_ble_eq_true rfl) dX3_hours_4 ⟨Nat.le_of_ble_eq_true rfl, Nat.le_of_ble_eq_true rfl⟩ ⟨Nat.le_of_ble_eq_true rfl, Nat.le_of_ble_eq_true rfl⟩) hM (fun H locs b4 hM => ?_) (fun H locs b4 hM => ?_)
  · refine lv_if_ne (tgt := 13) hx hb dX3_hours_7 (by decide) (fun c7 => ?_) (fun cZ => absurd cZ (by decide))
    refine lv_aload_n hx hb dX3_hours_13 rfl (lv_at hl 0 rfl) ?_
    refine r_getq B hM 0 hL.1 rfl (by decide) rfl rfl (hL.2 0 _ _ rfl).1 q1382 dX3_hours_14 ?_
    refine lv_iconst (v := 5) hx hb dX3_hours_17 (by decide) ?_
    refine r_ild B hM 5 (hL.2 0 _ _ rfl).2 rfl (by decide) (by decide) dX3_hours_18 ?_
    refine lv_topi (fun v_1 ev_1 => ?_)
    refine lv_istore_n (lv' := [(2, .int v_1), (0, .ref y0), (1, .int n)]) hx hb dX3_hours_19 rfl hl (by decide) rfl (fun ls hl => ?_)
    refine lv_aload_n hx hb dX3_hours_20 rfl (lv_at hl 1 rfl) ?_
    refine lv_sipush (v := 9999) hx hb dX3_hours_21 (by decide) ?_
    refine lv_aload_n hx hb dX3_hours_24 rfl (lv_at hl 1 rfl) ?_
    refine r_getq B hM 0 hL.1 rfl (by decide) rfl rfl (hL.2 0 _ _ rfl).1 q1382 dX3_hours_25 ?_
    refine lv_iconst (v := 3) hx hb dX3_hours_28 (by decide) ?_
    refine r_ild B hM 3 (hL.2 0 _ _ rfl).2 rfl (by decide) (by decide) dX3_hours_29 ?_
    refine lv_isub hx hb dX3_hours_30 ?_
    refine lv_iconst (v := 0) hx hb dX3_hours_31 (by decide) ?_
    refine lv_iload_n hx hb dX3_hours_32 rfl (lv_at hl 2 rfl) ?_
    refine k_pe (v := wi ((9999 : Int32) - (ka 1000 3)) 0 n) (r_S (As := [.int ((9999 : Int32) - (ka 1000 3)), .int 0, .int n]) (rest := [.ref y0]) B hM (ok_within ((9999 : Int32) - (ka 1000 3)) 0 n) cal_X3_within q1526 rfl hl.1 (Nat.le_of_ble_eq_true rfl) dX3_hours_33 ⟨Nat.le_of_ble_eq_true rfl, Nat.le_of_ble_eq_true rfl⟩ ⟨Nat.le_of_ble_eq_true rfl, Nat.le_of_ble_eq_true rfl⟩) hM (fun H locs hM => ?_)
    have hw := wi_nI (x := 9999 - ka 1000 3) (n := n) (by grind)
    refine r_topv (v := nI (hrN (sg ka) n)) hw.1 ?_
    refine k_v (r_V (As := [.int (nI (hrN (sg ka) n))]) (rest := []) B hM hL.1 rfl rfl (ok_goesOn hL hR (n := hrN (sg ka) n) (by have := nI_of (x := wi (9999 - ka 1000 3) 0 n) (by grind [wi]); obtain ⟨k, hk, e⟩ := this; show cl (wi (9999 - ka 1000 3) 0 n) < _; rw [e, cl_nI hk]; exact hk)) cal_X3_goesOn q1629 rfl hl.1 (Nat.le_of_ble_eq_true rfl) dX3_hours_36 ⟨Nat.le_of_ble_eq_true rfl, Nat.le_of_ble_eq_true rfl⟩ ⟨Nat.le_of_ble_eq_true rfl, Nat.le_of_ble_eq_true rfl⟩) hM (fun ka_2 H locs p_3 hM => ?_)
    obtain ⟨hf1, hq⟩ := p_3
    have hB_2 : But [1000, 1004, 1023, 1024] ka ka_2 := But.trans But.refl (But.mono hq (by decide))
    refine lv_aload_n hx hb dX3_hours_39 rfl (lv_at hl 1 rfl) ?_
    refine r_getq B hM 0 hL.1 rfl (by decide) rfl rfl (hL.2 0 _ _ rfl).1 q1382 dX3_hours_40 ?_
    refine lv_iconst (v := 5) hx hb dX3_hours_43 (by decide) ?_
    refine r_ild B hM 5 (hL.2 0 _ _ rfl).2 rfl (by decide) (by decide) dX3_hours_44 ?_
    refine lv_iload_n hx hb dX3_hours_45 rfl (lv_at hl 0 rfl) ?_
    refine lv_isub hx hb dX3_hours_46 ?_
    refine r_iret B hr hM dX3_hours_47 ?_
    constructor
    · simp only [A_hours]; rw [if_pos (by grind)]; simp only [sg0]; rw [← hf1, ev_1]
    · simp only [S_hours]; rw [if_pos (by grind)]; exact Rel.row hB_2 hf1 (by decide) (by decide)
  · refine lv_if_ne (tgt := 13) hx hb dX3_hours_7 (by decide) (fun cZ => absurd (by decide) cZ) (fun c7 => ?_)
    refine lv_ldc hx hb B.2.2.2.1 (B.ts _ q1496) dX3_hours_10 ?_
    refine r_iret B hr hM dX3_hours_12 ?_
    constructor
    · simp only [A_hours, sg0, sg1, sg7, sg25, sg26, sg27, sg28, sg29, sg30, sg31, sg33, sg99] <;> grind
    · refine Rel.of ?_; simp only [S_hours, sg0, sg1, sg7, sg25, sg26, sg27, sg28, sg29, sg30, sg31, sg33, sg99] <;> grind
set_option maxHeartbeats 4000000 in
theorem ok_town (hL : LayM th rh y0 ay) (hR : Rok (ka 1000)) (w : Int32) : Met l yX3_town (ws_ yX3_town cX3_town 4 (some .int)) (RM 8 0 0) (Pc_ G [.ref y0, .int w] th rh ph ka) (Qi G th rh ph (fun r ka' => r = A_town (sg ka) w ∧ Rel (sg ka) (sg ka'))) 0 0 (frG G) := by
  refine m_of (by decide) (Nat.le_of_ble_eq_true rfl) ?_
  intro p_ e_ s_ m_ below_ meth_ c_ B hr hnm ls hl hM
  have hx := B.1
  have hb := B.2.1
  have hM := hM
  have h8 := hR.1.2
  have h13 := hR.2.1.2
  have h14 := hR.2.2.1.2
  have loop : ∀ (fu_loop : Nat) (i : Nat) (z : Int32), nC (ka 1000) - i < fu_loop → (w = 3) → (i ≤ nC (ka 1000)) → (z = itn (fun c a => a ||| (if 0 < fullT (ka 1000) c then (1 : Int32) <<< (nI c &&& 31) else 0)) i 0) → ∀ (ls : Array Slot) (H : Heap) (locs : List Loc), lv_has ls 4 [(0, .ref y0), (1, .int w), (2, .int z), (3, .int (nI i))] → Md G th rh ph ka H locs → W p_ l e_ (RM 8 0 0) s_ m_ ([.ref y0, .int w].toArray) below_ meth_ c_ H locs 0 0 (MQ below_ (Qi G th rh ph (fun r ka' => r = A_town (sg ka) w ∧ Rel (sg ka) (sg ka'))) ([.ref y0, .int w].toArray) s_ 0 0 (frG G)) (F0 m_ 53 ls []) := by
    intro fu_loop
    induction fu_loop with
    | zero => intro i z hfu; exact absurd hfu (Nat.not_lt_zero _)
    | succ fu_loop ih_loop =>
      intro i z hfu_loop hw3 hi hz ls H locs hl hM
      refine lv_iload_n hx hb dX3_town_53 rfl (lv_at hl 3 rfl) ?_
      refine lv_aload_n hx hb dX3_town_54 rfl (lv_at hl 0 rfl) ?_
      refine r_getq B hM 0 hL.1 rfl (by decide) rfl rfl (hL.2 0 _ _ rfl).1 q1382 dX3_town_55 ?_
      refine lv_iconst (v := 1) hx hb dX3_town_58 (by decide) ?_
      refine r_ild B hM 1 (hL.2 0 _ _ rfl).2 rfl (by decide) (by decide) dX3_town_59 ?_
      refine lv_icmp_ge (tgt := 87) hx hb dX3_town_60 (by decide) (fun c60 => ?_) (fun c60 => ?_)
      · have n60 : nC (ka 1000) ≤ i := ntLe (by rw [hR.1.1]) rfl (by omega) (by omega) c60
        refine lv_iload_n hx hb dX3_town_87 rfl (lv_at hl 2 rfl) ?_
        refine r_iret B hr hM dX3_town_88 ?_
        have hin : i = nC (ka 1000) := by omega
        subst hin
        refine ⟨?_, Rel.refl⟩
        subst hw3
        rw [hz]; rfl
      · have n60 : i < nC (ka 1000) := ntNle (by rw [hR.1.1]) rfl (by omega) (by omega) c60
        refine lv_iload_n hx hb dX3_town_63 rfl (lv_at hl 2 rfl) ?_
        refine lv_aload_n hx hb dX3_town_64 rfl (lv_at hl 0 rfl) ?_
        refine lv_iload_n hx hb dX3_town_65 rfl (lv_at hl 3 rfl) ?_
        refine k_pe (v := fullT (ka 1000) i) (r_V (As := [.int (nI i)]) (rest := [.int z]) B hM hL.1 rfl rfl (ok_fullOf hL (c := i) (by omega)) cal_X3_fullOf q1514 rfl hl.1 (Nat.le_of_ble_eq_true rfl) dX3_town_66 ⟨Nat.le_of_ble_eq_true rfl, Nat.le_of_ble_eq_true rfl⟩ ⟨Nat.le_of_ble_eq_true rfl, Nat.le_of_ble_eq_true rfl⟩) hM (fun H locs hM => ?_)
        refine lv_if_le (tgt := 78) hx hb dX3_town_69 (by decide) (fun c69 => ?_) (fun c69 => ?_)
        · refine lv_iconst (v := 0) hx hb dX3_town_78 (by decide) ?_
          refine lv_ior hx hb dX3_town_79 ?_
          refine lv_topi (fun v_1 ev_1 => ?_)
          refine lv_istore_n (lv' := [(2, .int v_1), (0, .ref y0), (1, .int w), (3, .int (nI i))]) hx hb dX3_town_80 rfl hl (by decide) rfl (fun ls hl => ?_)
          refine lv_iinc (v := nI (i + 1)) (lv' := [(3, .int (nI (i + 1))), (2, .int v_1), (0, .ref y0), (1, .int w)]) hx hb dX3_town_81 hl (k := 3) rfl (nI_1 _) (by decide) rfl (fun ls hl => ?_)
          refine lv_goto (tgt := 53) hx hb dX3_town_84 (by decide) ?_
          exact ih_loop (i + 1) v_1 (by omega) hw3 (by omega) (by rw [ev_1, hz]; show _ = _ ||| _; rw [if_neg (i_nlt.mpr c69)]) _ _ _ (lv_sub hl [2, 3, 1, 0] rfl) hM
        · refine lv_iconst (v := 1) hx hb dX3_town_72 (by decide) ?_
          refine lv_iload_n hx hb dX3_town_73 rfl (lv_at hl 3 rfl) ?_
          refine lv_ishl hx hb dX3_town_74 ?_
          refine lv_goto (tgt := 79) hx hb dX3_town_75 (by decide) ?_
          refine lv_ior hx hb dX3_town_79 ?_
          refine lv_topi (fun v_2 ev_2 => ?_)
          refine lv_istore_n (lv' := [(2, .int v_2), (0, .ref y0), (1, .int w), (3, .int (nI i))]) hx hb dX3_town_80 rfl hl (by decide) rfl (fun ls hl => ?_)
          refine lv_iinc (v := nI (i + 1)) (lv' := [(3, .int (nI (i + 1))), (2, .int v_2), (0, .ref y0), (1, .int w)]) hx hb dX3_town_81 hl (k := 3) rfl (nI_1 _) (by decide) rfl (fun ls hl => ?_)
          refine lv_goto (tgt := 53) hx hb dX3_town_84 (by decide) ?_
          exact ih_loop (i + 1) v_2 (by omega) hw3 (by omega) (by rw [ev_2, hz]; show _ = _ ||| _; rw [if_pos (i_nle.mp c69)]) _ _ _ (lv_sub hl [2, 3, 1, 0] rfl) hM
  refine lv_iload_n hx hb dX3_town_0 rfl (lv_at hl 1 rfl) ?_
  by_cases w1_0 : w = 0
  · refine lv_tableIn (tgt := 32) (off := 31) hx hb dX3_town_1 (by rw [w1_0]; decide) (by rw [w1_0]; decide) (by rw [w1_0]; rfl) (by decide) ?_
    refine lv_aload_n hx hb dX3_town_32 rfl (lv_at hl 0 rfl) ?_
    refine k_pe (v := allT (ka 1000)) (r_V (As := []) (rest := []) B hM hL.1 rfl rfl (ok_fullOfAll hL hR) cal_X3_fullOfAll q1653 rfl hl.1 (Nat.le_of_ble_eq_true rfl) dX3_town_33 ⟨Nat.le_of_ble_eq_true rfl, Nat.le_of_ble_eq_true rfl⟩ ⟨Nat.le_of_ble_eq_true rfl, Nat.le_of_ble_eq_true rfl⟩) hM (fun H locs hM => ?_)
    refine r_iret B hr hM dX3_town_36 ?_
    constructor
    · simp only [A_town, sg0, sg1, sg7, sg25, sg26, sg27, sg28, sg29, sg30, sg31, sg33, sg99] <;> grind
    · exact Rel.refl
  by_cases w1_1 : w = 1
  · refine lv_tableIn (tgt := 37) (off := 36) hx hb dX3_town_1 (by rw [w1_1]; decide) (by rw [w1_1]; decide) (by rw [w1_1]; rfl) (by decide) ?_
    refine lv_aload_n hx hb dX3_town_37 rfl (lv_at hl 0 rfl) ?_
    refine r_getq B hM 0 hL.1 rfl (by decide) rfl rfl (hL.2 0 _ _ rfl).1 q1382 dX3_town_38 ?_
    refine lv_iconst (v := 5) hx hb dX3_town_41 (by decide) ?_
    refine r_ild B hM 5 (hL.2 0 _ _ rfl).2 rfl (by decide) (by decide) dX3_town_42 ?_
    refine r_iret B hr hM dX3_town_43 ?_
    constructor
    · simp only [A_town, sg0, sg1, sg7, sg25, sg26, sg27, sg28, sg29, sg30, sg31, sg33, sg99] <;> grind
    · exact Rel.refl
  by_cases w1_2 : w = 2
  · refine lv_tableIn (tgt := 44) (off := 43) hx hb dX3_town_1 (by rw [w1_2]; decide) (by rw [w1_2]; decide) (by rw [w1_2]; rfl) (by decide) ?_
    refine lv_aload_n hx hb dX3_town_44 rfl (lv_at hl 0 rfl) ?_
    refine k_i (r_V (As := []) (rest := []) B hM hL.1 rfl rfl (ok_running hL hR) cal_X3_running q1657 rfl hl.1 (Nat.le_of_ble_eq_true rfl) dX3_town_45 ⟨Nat.le_of_ble_eq_true rfl, Nat.le_of_ble_eq_true rfl⟩ ⟨Nat.le_of_ble_eq_true rfl, Nat.le_of_ble_eq_true rfl⟩) hM (fun r_3 ka_4 H locs p_5 hM => ?_)
    obtain ⟨rfl, hq⟩ := p_5
    have hB_4 : But [1023, 1024] ka ka_4 := But.trans But.refl (But.mono hq (by decide))
    refine r_iret B hr hM dX3_town_48 ?_
    constructor
    · simp only [A_town, sg0, sg1, sg7, sg25, sg26, sg27, sg28, sg29, sg30, sg31, sg33, sg99] <;> grind
    · exact But.rel hB_4 (by decide)
  by_cases w1_3 : w = 3
  · refine lv_tableIn (tgt := 49) (off := 48) hx hb dX3_town_1 (by rw [w1_3]; decide) (by rw [w1_3]; decide) (by rw [w1_3]; rfl) (by decide) ?_
    refine lv_iconst (v := 0) hx hb dX3_town_49 (by decide) ?_
    refine lv_istore_n (lv' := [(2, .int 0), (0, .ref y0), (1, .int w)]) hx hb dX3_town_50 rfl hl (by decide) rfl (fun ls hl => ?_)
    refine lv_iconst (v := 0) hx hb dX3_town_51 (by decide) ?_
    refine lv_istore_n (lv' := [(3, .int 0), (2, .int 0), (0, .ref y0), (1, .int w)]) hx hb dX3_town_52 rfl hl (by decide) rfl (fun ls hl => ?_)
    exact loop (nC (ka 1000) + 1) 0 0 (by omega) (by assumption) (Nat.zero_le _) rfl _ _ _ (lv_sub hl [2, 3, 1, 0] rfl) hM
  have tw1_0 : Int32.toInt (w) ≠ 0 := fun z => w1_0 (Int32.toInt_inj.mp (z.trans (by decide)))
  have tw1_1 : Int32.toInt (w) ≠ 1 := fun z => w1_1 (Int32.toInt_inj.mp (z.trans (by decide)))
  have tw1_2 : Int32.toInt (w) ≠ 2 := fun z => w1_2 (Int32.toInt_inj.mp (z.trans (by decide)))
  have tw1_3 : Int32.toInt (w) ≠ 3 := fun z => w1_3 (Int32.toInt_inj.mp (z.trans (by decide)))
  refine lv_tableOut (tgt := 89) hx hb dX3_town_1 (by omega) (by decide) ?_
  refine lv_ldc hx hb B.2.2.2.1 (B.ts _ q1496) dX3_town_89 ?_
  refine r_iret B hr hM dX3_town_91 ?_
  constructor
  · simp only [A_town, sg0, sg1, sg7, sg25, sg26, sg27, sg28, sg29, sg30, sg31, sg33, sg99] <;> grind
  · exact Rel.refl
set_option maxHeartbeats 4000000 in
theorem ok_trim (hL : LayM th rh y0 ay) (n : Int32) : Met l yX3_trim (ws_ yX3_trim cX3_trim 2 (some .int)) (RM 2 0 0) (Pc_ G [.ref y0, .int n] th rh ph ka) (Qi G th rh ph (fun r ka' => r = A_trim (sg ka) n ∧ Rel (S_trim (sg ka) n) (sg ka'))) 0 0 (frG G) := by
  refine m_of (by decide) (Nat.le_of_ble_eq_true rfl) ?_
  intro p_ e_ s_ m_ below_ meth_ c_ B hr hnm ls hl hM
  have hx := B.1
  have hb := B.2.1
  have hM := hM
  refine lv_iload_n hx hb dX3_trim_0 rfl (lv_at hl 1 rfl) ?_
  refine lv_iconst (v := 0) hx hb dX3_trim_1 (by decide) ?_
  refine lv_aload_n hx hb dX3_trim_2 rfl (lv_at hl 0 rfl) ?_
  refine r_geti B hM 8 hL.1 rfl (by decide) rfl rfl q1390 dX3_trim_3 ?_
  refine k_pb (r_S (As := [.int n, .int 0, .int (ka 1099 8)]) (rest := []) B hM (ok_in n 0 (ka 1099 8)) cal_X3_in q1493 rfl hl.1 (Nat.le_of_ble_eq_true rfl) dX3_trim_6 ⟨Nat.le_of_ble_eq_true rfl, Nat.le_of_ble_eq_true rfl⟩ ⟨Nat.le_of_ble_eq_true rfl, Nat.le_of_ble_eq_true rfl⟩) hM (fun H locs b6 hM => ?_) (fun H locs b6 hM => ?_)
  · refine lv_if_ne (tgt := 15) hx hb dX3_trim_9 (by decide) (fun c9 => ?_) (fun cZ => absurd cZ (by decide))
    refine lv_aload_n hx hb dX3_trim_15 rfl (lv_at hl 0 rfl) ?_
    refine lv_iload_n hx hb dX3_trim_16 rfl (lv_at hl 1 rfl) ?_
    refine r_puti B hM 8 hL.1 rfl (by decide) rfl rfl q1390 dX3_trim_17 (fun ka_1 H locs eka_1 hM => ?_)
    refine lv_iload_n hx hb dX3_trim_20 rfl (lv_at hl 1 rfl) ?_
    refine r_iret B hr hM dX3_trim_21 ?_
    constructor
    · simp only [A_trim, sg99]; grind
    · refine Rel.of ?_; rw [eka_1]; simp only [S_trim]; rw [if_pos (show btw n 0 (sg ka 99 8) from b6)]; exact (sg_up2 ka 99 _ _).symm
  · refine lv_if_ne (tgt := 15) hx hb dX3_trim_9 (by decide) (fun cZ => absurd (by decide) cZ) (fun c9 => ?_)
    refine lv_ldc hx hb B.2.2.2.1 (B.ts _ q1496) dX3_trim_12 ?_
    refine r_iret B hr hM dX3_trim_14 ?_
    constructor
    · simp only [A_trim, sg0, sg1, sg7, sg25, sg26, sg27, sg28, sg29, sg30, sg31, sg33, sg99] <;> grind
    · refine Rel.of ?_; simp only [S_trim, sg0, sg1, sg7, sg25, sg26, sg27, sg28, sg29, sg30, sg31, sg33, sg99] <;> grind
set_option maxHeartbeats 4000000 in
theorem ok_textTold (hL : LayM th rh y0 ay) (hR : Rok (ka 1000)) (x w : Int32) : Met l yX3_textTold (ws_ yX3_textTold cX3_textTold 3 (some .int)) (RM 2 0 0) (Pc_ G [.ref y0, .int x, .int w] th rh ph ka) (Qi G th rh ph (fun r ka' => r = A_textTold (sg ka) x w ∧ Rel (sg ka) (sg ka'))) 0 0 (frG G) := by
  refine m_of (by decide) (Nat.le_of_ble_eq_true rfl) ?_
  intro p_ e_ s_ m_ below_ meth_ c_ B hr hnm ls hl hM
  have hx := B.1
  have hb := B.2.1
  have hM := hM
  have h8 := hR.1.2
  have h13 := hR.2.1.2
  have h14 := hR.2.2.1.2
  refine lv_iload_n hx hb dX3_textTold_0 rfl (lv_at hl 1 rfl) ?_
  refine lv_iconst (v := 0) hx hb dX3_textTold_1 (by decide) ?_
  refine lv_aload_n hx hb dX3_textTold_2 rfl (lv_at hl 0 rfl) ?_
  refine r_getq B hM 0 hL.1 rfl (by decide) rfl rfl (hL.2 0 _ _ rfl).1 q1382 dX3_textTold_3 ?_
  refine lv_bipush (v := 6) hx hb dX3_textTold_6 (by decide) ?_
  refine r_ild B hM 6 (hL.2 0 _ _ rfl).2 rfl (by decide) (by decide) dX3_textTold_8 ?_
  refine lv_iconst (v := 1) hx hb dX3_textTold_9 (by decide) ?_
  refine lv_isub hx hb dX3_textTold_10 ?_
  refine k_pb (r_S (As := [.int x, .int 0, .int ((ka 1000 6) - 1)]) (rest := []) B hM (ok_in x 0 ((ka 1000 6) - 1)) cal_X3_in q1493 rfl hl.1 (Nat.le_of_ble_eq_true rfl) dX3_textTold_11 ⟨Nat.le_of_ble_eq_true rfl, Nat.le_of_ble_eq_true rfl⟩ ⟨Nat.le_of_ble_eq_true rfl, Nat.le_of_ble_eq_true rfl⟩) hM (fun H locs b11 hM => ?_) (fun H locs b11 hM => ?_)
  · obtain ⟨kx, hkx, rfl⟩ := (isC_iff' hR.2.2.1.1 (by omega)).mp b11
    have hinkx : inC (nI kx) (nX (ka 1000)) := (inC_iff (by omega)).mpr ⟨kx, hkx, rfl⟩
    have hclkx : cl (nI kx) = kx := cl_nI (by omega)
    refine lv_if_eq (tgt := 26) hx hb dX3_textTold_14 (by decide) (fun cZ => absurd cZ (by decide)) (fun c14 => ?_)
    refine lv_iload_n hx hb dX3_textTold_17 rfl (lv_at hl 2 rfl) ?_
    refine lv_iconst (v := 0) hx hb dX3_textTold_18 (by decide) ?_
    refine lv_iconst (v := 1) hx hb dX3_textTold_19 (by decide) ?_
    refine k_pb (r_S (As := [.int w, .int 0, .int 1]) (rest := []) B hM (ok_in w 0 1) cal_X3_in q1493 rfl hl.1 (Nat.le_of_ble_eq_true rfl) dX3_textTold_20 ⟨Nat.le_of_ble_eq_true rfl, Nat.le_of_ble_eq_true rfl⟩ ⟨Nat.le_of_ble_eq_true rfl, Nat.le_of_ble_eq_true rfl⟩) hM (fun H locs b20 hM => ?_) (fun H locs b20 hM => ?_)
    · refine lv_if_ne (tgt := 29) hx hb dX3_textTold_23 (by decide) (fun c23 => ?_) (fun cZ => absurd cZ (by decide))
      refine lv_iload_n hx hb dX3_textTold_29 rfl (lv_at hl 2 rfl) ?_
      refine lv_if_ne (tgt := 51) hx hb dX3_textTold_30 (by decide) (fun c30 => ?_) (fun c30 => ?_)
      · refine lv_aload_n hx hb dX3_textTold_51 rfl (lv_at hl 0 rfl) ?_
        refine r_getq B hM 0 hL.1 rfl (by decide) rfl rfl (hL.2 0 _ _ rfl).1 q1382 dX3_textTold_52 ?_
        refine lv_bipush (v := 107) hx hb dX3_textTold_55 (by decide) ?_
        refine lv_iconst (v := 2) hx hb dX3_textTold_57 (by decide) ?_
        refine lv_iload_n hx hb dX3_textTold_58 rfl (lv_at hl 1 rfl) ?_
        refine lv_imul hx hb dX3_textTold_59 ?_
        refine lv_iadd hx hb dX3_textTold_60 ?_
        refine lv_iconst (v := 1) hx hb dX3_textTold_61 (by decide) ?_
        refine lv_iadd hx hb dX3_textTold_62 ?_
        refine r_ild B hM (107 + 2 * kx + 1) (hL.2 0 _ _ rfl).2 (by simp only [nA, nMu, nL]) (by omega) (by decide) dX3_textTold_63 ?_
        refine r_iret B hr hM dX3_textTold_64 ?_
        constructor
        · simp only [A_textTold, sg0, sg1, sg7, sg25, sg26, sg27, sg28, sg29, sg30, sg31, sg33, sg99, hclkx] <;> grind
        · exact Rel.refl
      · refine lv_aload_n hx hb dX3_textTold_33 rfl (lv_at hl 0 rfl) ?_
        refine r_getq B hM 0 hL.1 rfl (by decide) rfl rfl (hL.2 0 _ _ rfl).1 q1382 dX3_textTold_34 ?_
        refine lv_bipush (v := 107) hx hb dX3_textTold_37 (by decide) ?_
        refine lv_iconst (v := 2) hx hb dX3_textTold_39 (by decide) ?_
        refine lv_iload_n hx hb dX3_textTold_40 rfl (lv_at hl 1 rfl) ?_
        refine lv_imul hx hb dX3_textTold_41 ?_
        refine lv_iadd hx hb dX3_textTold_42 ?_
        refine r_ild B hM (107 + 2 * kx) (hL.2 0 _ _ rfl).2 (by simp only [nA, nMu, nL]) (by omega) (by decide) dX3_textTold_43 ?_
        refine lv_sipush (v := 1000) hx hb dX3_textTold_44 (by decide) ?_
        refine lv_idiv hx hb dX3_textTold_47 (by decide) ?_
        refine lv_goto (tgt := 64) hx hb dX3_textTold_48 (by decide) ?_
        refine r_iret B hr hM dX3_textTold_64 ?_
        constructor
        · simp only [A_textTold, sg0, sg1, sg7, sg25, sg26, sg27, sg28, sg29, sg30, sg31, sg33, sg99, hclkx] <;> grind
        · exact Rel.refl
    · refine lv_if_ne (tgt := 29) hx hb dX3_textTold_23 (by decide) (fun cZ => absurd (by decide) cZ) (fun c23 => ?_)
      refine lv_ldc hx hb B.2.2.2.1 (B.ts _ q1496) dX3_textTold_26 ?_
      refine r_iret B hr hM dX3_textTold_28 ?_
      constructor
      · simp only [A_textTold, sg0, sg1, sg7, sg25, sg26, sg27, sg28, sg29, sg30, sg31, sg33, sg99, hclkx] <;> grind
      · exact Rel.refl
  · have ix : ¬ inC x (nX (ka 1000)) := fun z => b11 ((isC_iff' hR.2.2.1.1 (by omega)).mpr ((inC_iff (by omega)).mp z))
    refine lv_if_eq (tgt := 26) hx hb dX3_textTold_14 (by decide) (fun c14 => ?_) (fun cZ => absurd (by decide) cZ)
    refine lv_ldc hx hb B.2.2.2.1 (B.ts _ q1496) dX3_textTold_26 ?_
    refine r_iret B hr hM dX3_textTold_28 ?_
    constructor
    · simp only [A_textTold, sg0, sg1, sg7, sg25, sg26, sg27, sg28, sg29, sg30, sg31, sg33, sg99] <;> grind
    · exact Rel.refl
set_option maxHeartbeats 4000000 in
theorem ok_why (hL : LayM th rh y0 ay) (hR : Rok (ka 1000)) (key : Int32) : Met l yX3_why (ws_ yX3_why cX3_why 3 (some .int)) (RM 2 0 0) (Pc_ G [.ref y0, .int key] th rh ph ka) (Qi G th rh ph (fun r ka' => r = A_why (sg ka) key ∧ Rel (sg ka) (sg ka'))) 0 0 (frG G) := by
  refine m_of (by decide) (Nat.le_of_ble_eq_true rfl) ?_
  intro p_ e_ s_ m_ below_ meth_ c_ B hr hnm ls hl hM
  have hx := B.1
  have hb := B.2.1
  have hM := hM
  have h8 := hR.1.2
  have h13 := hR.2.1.2
  have h14 := hR.2.2.1.2
  refine lv_iload_n hx hb dX3_why_0 rfl (lv_at hl 1 rfl) ?_
  refine lv_iconst (v := 0) hx hb dX3_why_1 (by decide) ?_
  refine lv_iconst (v := 2) hx hb dX3_why_2 (by decide) ?_
  refine k_pb (r_S (As := [.int key, .int 0, .int 2]) (rest := []) B hM (ok_in key 0 2) cal_X3_in q1493 rfl hl.1 (Nat.le_of_ble_eq_true rfl) dX3_why_3 ⟨Nat.le_of_ble_eq_true rfl, Nat.le_of_ble_eq_true rfl⟩ ⟨Nat.le_of_ble_eq_true rfl, Nat.le_of_ble_eq_true rfl⟩) hM (fun H locs b3 hM => ?_) (fun H locs b3 hM => ?_)
  · refine lv_if_ne (tgt := 12) hx hb dX3_why_6 (by decide) (fun c6 => ?_) (fun cZ => absurd cZ (by decide))
    refine lv_aload_n hx hb dX3_why_12 rfl (lv_at hl 0 rfl) ?_
    refine lv_iload_n hx hb dX3_why_13 rfl (lv_at hl 1 rfl) ?_
    refine k_pe (v := opI (cntT (ka 1000) key (nX (ka 1000)))) (r_V (As := [.int key]) (rest := []) B hM hL.1 rfl rfl (ok_counts hL hR key) cal_X3_counts q1522 rfl hl.1 (Nat.le_of_ble_eq_true rfl) dX3_why_14 ⟨Nat.le_of_ble_eq_true rfl, Nat.le_of_ble_eq_true rfl⟩ ⟨Nat.le_of_ble_eq_true rfl, Nat.le_of_ble_eq_true rfl⟩) hM (fun H locs hM => ?_)
    refine lv_topi (fun v_1 ev_1 => ?_)
    refine lv_istore_n (lv' := [(2, .int v_1), (0, .ref y0), (1, .int key)]) hx hb dX3_why_17 rfl hl (by decide) rfl (fun ls hl => ?_)
    refine lv_iload_n hx hb dX3_why_18 rfl (lv_at hl 0 rfl) ?_
    refine lv_if_ge (tgt := 27) hx hb dX3_why_19 (by decide) (fun c19 => ?_) (fun c19 => ?_)
    · refine lv_iload_n hx hb dX3_why_27 rfl (lv_at hl 0 rfl) ?_
      refine r_iret B hr hM dX3_why_28 ?_
      refine ⟨?_, Rel.refl⟩
      simp only [A_why, sg0]; rw [if_pos (by grind), ← ev_1]; grind [none0]
    · refine lv_ldc hx hb B.2.2.2.1 (B.ts _ q1681) dX3_why_22 ?_
      refine lv_goto (tgt := 28) hx hb dX3_why_24 (by decide) ?_
      refine r_iret B hr hM dX3_why_28 ?_
      refine ⟨?_, Rel.refl⟩
      simp only [A_why, sg0]; rw [if_pos (by grind), ← ev_1]; grind [none0]
  · refine lv_if_ne (tgt := 12) hx hb dX3_why_6 (by decide) (fun cZ => absurd (by decide) cZ) (fun c6 => ?_)
    refine lv_ldc hx hb B.2.2.2.1 (B.ts _ q1496) dX3_why_9 ?_
    refine r_iret B hr hM dX3_why_11 ?_
    constructor
    · simp only [A_why, sg0, sg1, sg7, sg25, sg26, sg27, sg28, sg29, sg30, sg31, sg33, sg99] <;> grind
    · exact Rel.refl
set_option maxHeartbeats 4000000 in
theorem ok_count (hL : LayM th rh y0 ay) (hR : Rok (ka 1000)) (w : Int32) : Met l yX3_count (ws_ yX3_count cX3_count 2 (some .int)) (RM 3 0 0) (Pc_ G [.ref y0, .int w] th rh ph ka) (Qi G th rh ph (fun r ka' => r = A_count (sg ka) w ∧ Rel (sg ka) (sg ka'))) 0 0 (frG G) := by
  refine m_of (by decide) (Nat.le_of_ble_eq_true rfl) ?_
  intro p_ e_ s_ m_ below_ meth_ c_ B hr hnm ls hl hM
  have hx := B.1
  have hb := B.2.1
  have hM := hM
  refine lv_iload_n hx hb dX3_count_0 rfl (lv_at hl 1 rfl) ?_
  by_cases w1_0 : w = 0
  · refine lv_tableIn (tgt := 52) (off := 51) hx hb dX3_count_1 (by rw [w1_0]; decide) (by rw [w1_0]; decide) (by rw [w1_0]; rfl) (by decide) ?_
    refine lv_aload_n hx hb dX3_count_52 rfl (lv_at hl 0 rfl) ?_
    refine r_getq B hM 0 hL.1 rfl (by decide) rfl rfl (hL.2 0 _ _ rfl).1 q1382 dX3_count_53 ?_
    refine lv_iconst (v := 1) hx hb dX3_count_56 (by decide) ?_
    refine r_ild B hM 1 (hL.2 0 _ _ rfl).2 rfl (by decide) (by decide) dX3_count_57 ?_
    refine r_iret B hr hM dX3_count_58 ?_
    constructor
    · simp only [A_count, sg0, sg1, sg7, sg25, sg26, sg27, sg28, sg29, sg30, sg31, sg33, sg99] <;> grind
    · exact Rel.refl
  by_cases w1_1 : w = 1
  · refine lv_tableIn (tgt := 59) (off := 58) hx hb dX3_count_1 (by rw [w1_1]; decide) (by rw [w1_1]; decide) (by rw [w1_1]; rfl) (by decide) ?_
    refine lv_aload_n hx hb dX3_count_59 rfl (lv_at hl 0 rfl) ?_
    refine r_getq B hM 0 hL.1 rfl (by decide) rfl rfl (hL.2 0 _ _ rfl).1 q1382 dX3_count_60 ?_
    refine lv_iconst (v := 2) hx hb dX3_count_63 (by decide) ?_
    refine r_ild B hM 2 (hL.2 0 _ _ rfl).2 rfl (by decide) (by decide) dX3_count_64 ?_
    refine r_iret B hr hM dX3_count_65 ?_
    constructor
    · simp only [A_count, sg0, sg1, sg7, sg25, sg26, sg27, sg28, sg29, sg30, sg31, sg33, sg99] <;> grind
    · exact Rel.refl
  by_cases w1_2 : w = 2
  · refine lv_tableIn (tgt := 66) (off := 65) hx hb dX3_count_1 (by rw [w1_2]; decide) (by rw [w1_2]; decide) (by rw [w1_2]; rfl) (by decide) ?_
    refine lv_aload_n hx hb dX3_count_66 rfl (lv_at hl 0 rfl) ?_
    refine r_getq B hM 0 hL.1 rfl (by decide) rfl rfl (hL.2 0 _ _ rfl).1 q1382 dX3_count_67 ?_
    refine lv_iconst (v := 3) hx hb dX3_count_70 (by decide) ?_
    refine r_ild B hM 3 (hL.2 0 _ _ rfl).2 rfl (by decide) (by decide) dX3_count_71 ?_
    refine r_iret B hr hM dX3_count_72 ?_
    constructor
    · simp only [A_count, sg0, sg1, sg7, sg25, sg26, sg27, sg28, sg29, sg30, sg31, sg33, sg99] <;> grind
    · exact Rel.refl
  by_cases w1_3 : w = 3
  · refine lv_tableIn (tgt := 73) (off := 72) hx hb dX3_count_1 (by rw [w1_3]; decide) (by rw [w1_3]; decide) (by rw [w1_3]; rfl) (by decide) ?_
    refine lv_aload_n hx hb dX3_count_73 rfl (lv_at hl 0 rfl) ?_
    refine r_getq B hM 0 hL.1 rfl (by decide) rfl rfl (hL.2 0 _ _ rfl).1 q1382 dX3_count_74 ?_
    refine lv_iconst (v := 4) hx hb dX3_count_77 (by decide) ?_
    refine r_ild B hM 4 (hL.2 0 _ _ rfl).2 rfl (by decide) (by decide) dX3_count_78 ?_
    refine r_iret B hr hM dX3_count_79 ?_
    constructor
    · simp only [A_count, sg0, sg1, sg7, sg25, sg26, sg27, sg28, sg29, sg30, sg31, sg33, sg99] <;> grind
    · exact Rel.refl
  by_cases w1_4 : w = 4
  · refine lv_tableIn (tgt := 80) (off := 79) hx hb dX3_count_1 (by rw [w1_4]; decide) (by rw [w1_4]; decide) (by rw [w1_4]; rfl) (by decide) ?_
    refine lv_aload_n hx hb dX3_count_80 rfl (lv_at hl 0 rfl) ?_
    refine k_pe (v := corkedT (ka 1000)) (r_V (As := []) (rest := []) B hM hL.1 rfl rfl (ok_corked hL hR) cal_X3_corked q1859 rfl hl.1 (Nat.le_of_ble_eq_true rfl) dX3_count_81 ⟨Nat.le_of_ble_eq_true rfl, Nat.le_of_ble_eq_true rfl⟩ ⟨Nat.le_of_ble_eq_true rfl, Nat.le_of_ble_eq_true rfl⟩) hM (fun H locs hM => ?_)
    refine r_iret B hr hM dX3_count_84 ?_
    constructor
    · simp only [A_count, sg0, sg1, sg7, sg25, sg26, sg27, sg28, sg29, sg30, sg31, sg33, sg99] <;> grind
    · exact Rel.refl
  by_cases w1_5 : w = 5
  · refine lv_tableIn (tgt := 85) (off := 84) hx hb dX3_count_1 (by rw [w1_5]; decide) (by rw [w1_5]; decide) (by rw [w1_5]; rfl) (by decide) ?_
    refine lv_aload_n hx hb dX3_count_85 rfl (lv_at hl 0 rfl) ?_
    refine r_getq B hM 0 hL.1 rfl (by decide) rfl rfl (hL.2 0 _ _ rfl).1 q1382 dX3_count_86 ?_
    refine lv_bipush (v := 6) hx hb dX3_count_89 (by decide) ?_
    refine r_ild B hM 6 (hL.2 0 _ _ rfl).2 rfl (by decide) (by decide) dX3_count_91 ?_
    refine r_iret B hr hM dX3_count_92 ?_
    constructor
    · simp only [A_count, sg0, sg1, sg7, sg25, sg26, sg27, sg28, sg29, sg30, sg31, sg33, sg99] <;> grind
    · exact Rel.refl
  by_cases w1_6 : w = 6
  · refine lv_tableIn (tgt := 93) (off := 92) hx hb dX3_count_1 (by rw [w1_6]; decide) (by rw [w1_6]; decide) (by rw [w1_6]; rfl) (by decide) ?_
    refine lv_aload_n hx hb dX3_count_93 rfl (lv_at hl 0 rfl) ?_
    refine r_geti B hM 34 hL.1 rfl (by decide) rfl rfl q1416 dX3_count_94 ?_
    refine r_iret B hr hM dX3_count_97 ?_
    constructor
    · simp only [A_count, sg0, sg1, sg7, sg25, sg26, sg27, sg28, sg29, sg30, sg31, sg33, sg99] <;> grind
    · exact Rel.refl
  by_cases w1_7 : w = 7
  · refine lv_tableIn (tgt := 98) (off := 97) hx hb dX3_count_1 (by rw [w1_7]; decide) (by rw [w1_7]; decide) (by rw [w1_7]; rfl) (by decide) ?_
    refine lv_aload_n hx hb dX3_count_98 rfl (lv_at hl 0 rfl) ?_
    refine r_geti B hM 8 hL.1 rfl (by decide) rfl rfl q1390 dX3_count_99 ?_
    refine r_iret B hr hM dX3_count_102 ?_
    constructor
    · simp only [A_count, sg0, sg1, sg7, sg25, sg26, sg27, sg28, sg29, sg30, sg31, sg33, sg99] <;> grind
    · exact Rel.refl
  by_cases w1_8 : w = 8
  · refine lv_tableIn (tgt := 103) (off := 102) hx hb dX3_count_1 (by rw [w1_8]; decide) (by rw [w1_8]; decide) (by rw [w1_8]; rfl) (by decide) ?_
    refine lv_aload_n hx hb dX3_count_103 rfl (lv_at hl 0 rfl) ?_
    refine r_getq B hM 0 hL.1 rfl (by decide) rfl rfl (hL.2 0 _ _ rfl).1 q1382 dX3_count_104 ?_
    refine lv_iconst (v := 0) hx hb dX3_count_107 (by decide) ?_
    refine r_ild B hM 0 (hL.2 0 _ _ rfl).2 rfl (by decide) (by decide) dX3_count_108 ?_
    refine r_iret B hr hM dX3_count_109 ?_
    constructor
    · simp only [A_count, sg0, sg1, sg7, sg25, sg26, sg27, sg28, sg29, sg30, sg31, sg33, sg99] <;> grind
    · exact Rel.refl
  have tw1_0 : Int32.toInt (w) ≠ 0 := fun z => w1_0 (Int32.toInt_inj.mp (z.trans (by decide)))
  have tw1_1 : Int32.toInt (w) ≠ 1 := fun z => w1_1 (Int32.toInt_inj.mp (z.trans (by decide)))
  have tw1_2 : Int32.toInt (w) ≠ 2 := fun z => w1_2 (Int32.toInt_inj.mp (z.trans (by decide)))
  have tw1_3 : Int32.toInt (w) ≠ 3 := fun z => w1_3 (Int32.toInt_inj.mp (z.trans (by decide)))
  have tw1_4 : Int32.toInt (w) ≠ 4 := fun z => w1_4 (Int32.toInt_inj.mp (z.trans (by decide)))
  have tw1_5 : Int32.toInt (w) ≠ 5 := fun z => w1_5 (Int32.toInt_inj.mp (z.trans (by decide)))
  have tw1_6 : Int32.toInt (w) ≠ 6 := fun z => w1_6 (Int32.toInt_inj.mp (z.trans (by decide)))
  have tw1_7 : Int32.toInt (w) ≠ 7 := fun z => w1_7 (Int32.toInt_inj.mp (z.trans (by decide)))
  have tw1_8 : Int32.toInt (w) ≠ 8 := fun z => w1_8 (Int32.toInt_inj.mp (z.trans (by decide)))
  refine lv_tableOut (tgt := 110) hx hb dX3_count_1 (by omega) (by decide) ?_
  refine lv_ldc hx hb B.2.2.2.1 (B.ts _ q1496) dX3_count_110 ?_
  refine r_iret B hr hM dX3_count_112 ?_
  constructor
  · simp only [A_count, sg0, sg1, sg7, sg25, sg26, sg27, sg28, sg29, sg30, sg31, sg33, sg99] <;> grind
  · exact Rel.refl
set_option maxHeartbeats 4000000 in
theorem ok_ask (hL : LayM th rh y0 ay) (sl kd : Int32) : Met l yX3_ask (ws_ yX3_ask cX3_ask 3 (some .int)) (RM 3 0 0) (Pc_ G [.ref y0, .int sl, .int kd] th rh ph ka) (Qi G th rh ph (fun r ka' => r = A_ask (sg ka) sl kd ∧ Rel (sg ka) (sg ka'))) 0 0 (frG G) := by
  refine m_of (by decide) (Nat.le_of_ble_eq_true rfl) ?_
  intro p_ e_ s_ m_ below_ meth_ c_ B hr hnm ls hl hM
  have hx := B.1
  have hb := B.2.1
  have hM := hM
  refine lv_iload_n hx hb dX3_ask_0 rfl (lv_at hl 1 rfl) ?_
  refine k_pb (r_S (As := [.int sl]) (rest := []) B hM (ok_isSlot sl) cal_X3_isSlot q1820 rfl hl.1 (Nat.le_of_ble_eq_true rfl) dX3_ask_1 ⟨Nat.le_of_ble_eq_true rfl, Nat.le_of_ble_eq_true rfl⟩ ⟨Nat.le_of_ble_eq_true rfl, Nat.le_of_ble_eq_true rfl⟩) hM (fun H locs b1 hM => ?_) (fun H locs b1 hM => ?_)
  · obtain ⟨ksl, hksl, rfl⟩ := b1
    have hinksl : inC (nI ksl) (5) := (inC_iff (by omega)).mpr ⟨ksl, hksl, rfl⟩
    have hclksl : cl (nI ksl) = ksl := cl_nI (by omega)
    refine lv_if_eq (tgt := 16) hx hb dX3_ask_4 (by decide) (fun cZ => absurd cZ (by decide)) (fun c4 => ?_)
    refine lv_iload_n hx hb dX3_ask_7 rfl (lv_at hl 2 rfl) ?_
    refine lv_iconst (v := 0) hx hb dX3_ask_8 (by decide) ?_
    refine lv_iconst (v := 5) hx hb dX3_ask_9 (by decide) ?_
    refine k_pb (r_S (As := [.int kd, .int 0, .int 5]) (rest := []) B hM (ok_in kd 0 5) cal_X3_in q1493 rfl hl.1 (Nat.le_of_ble_eq_true rfl) dX3_ask_10 ⟨Nat.le_of_ble_eq_true rfl, Nat.le_of_ble_eq_true rfl⟩ ⟨Nat.le_of_ble_eq_true rfl, Nat.le_of_ble_eq_true rfl⟩) hM (fun H locs b10 hM => ?_) (fun H locs b10 hM => ?_)
    · refine lv_if_ne (tgt := 19) hx hb dX3_ask_13 (by decide) (fun c13 => ?_) (fun cZ => absurd cZ (by decide))
      refine lv_aload_n hx hb dX3_ask_19 rfl (lv_at hl 0 rfl) ?_
      refine r_getq B hM 28 hL.1 rfl (by decide) rfl rfl (hL.2 28 _ _ rfl).1 q1410 dX3_ask_20 ?_
      refine lv_iload_n hx hb dX3_ask_23 rfl (lv_at hl 1 rfl) ?_
      refine r_ild B hM ksl (hL.2 28 _ _ rfl).2 rfl (by omega) (by decide) dX3_ask_24 ?_
      refine lv_if_ne (tgt := 31) hx hb dX3_ask_25 (by decide) (fun c25 => ?_) (fun c25 => ?_)
      · refine lv_aload_n hx hb dX3_ask_31 rfl (lv_at hl 0 rfl) ?_
        refine r_getq B hM 28 hL.1 rfl (by decide) rfl rfl (hL.2 28 _ _ rfl).1 q1410 dX3_ask_32 ?_
        refine lv_iload_n hx hb dX3_ask_35 rfl (lv_at hl 1 rfl) ?_
        refine r_ild B hM ksl (hL.2 28 _ _ rfl).2 rfl (by omega) (by decide) dX3_ask_36 ?_
        refine lv_iconst (v := 1) hx hb dX3_ask_37 (by decide) ?_
        refine lv_icmp_ne (tgt := 63) hx hb dX3_ask_38 (by decide) (fun c38 => ?_) (fun c38 => ?_)
        · refine lv_ldc hx hb B.2.2.2.1 (B.ts _ q1563) dX3_ask_63 ?_
          refine r_iret B hr hM dX3_ask_65 ?_
          constructor
          · simp only [A_ask, sg0, sg1, sg7, sg25, sg26, sg27, sg28, sg29, sg30, sg31, sg33, sg99, hclksl] <;> grind
          · exact Rel.refl
        · refine lv_aload_n hx hb dX3_ask_41 rfl (lv_at hl 0 rfl) ?_
          refine r_getq B hM 29 hL.1 rfl (by decide) rfl rfl (hL.2 29 _ _ rfl).1 q1411 dX3_ask_42 ?_
          refine lv_iload_n hx hb dX3_ask_45 rfl (lv_at hl 1 rfl) ?_
          refine r_ild B hM ksl (hL.2 29 _ _ rfl).2 rfl (by omega) (by decide) dX3_ask_46 ?_
          refine lv_iload_n hx hb dX3_ask_47 rfl (lv_at hl 2 rfl) ?_
          refine k_pb (r_S (As := [.int (ka 1029 ksl), .int kd]) (rest := []) B hM (ok_isUnder (ka 1029 ksl) kd) cal_X3_isUnder q1560 rfl hl.1 (Nat.le_of_ble_eq_true rfl) dX3_ask_48 ⟨Nat.le_of_ble_eq_true rfl, Nat.le_of_ble_eq_true rfl⟩ ⟨Nat.le_of_ble_eq_true rfl, Nat.le_of_ble_eq_true rfl⟩) hM (fun H locs b48 hM => ?_) (fun H locs b48 hM => ?_)
          · refine lv_if_eq (tgt := 63) hx hb dX3_ask_51 (by decide) (fun cZ => absurd cZ (by decide)) (fun c51 => ?_)
            refine lv_aload_n hx hb dX3_ask_54 rfl (lv_at hl 0 rfl) ?_
            refine r_getq B hM 30 hL.1 rfl (by decide) rfl rfl (hL.2 30 _ _ rfl).1 q1412 dX3_ask_55 ?_
            refine lv_iload_n hx hb dX3_ask_58 rfl (lv_at hl 1 rfl) ?_
            refine r_ild B hM ksl (hL.2 30 _ _ rfl).2 rfl (by omega) (by decide) dX3_ask_59 ?_
            refine lv_goto (tgt := 65) hx hb dX3_ask_60 (by decide) ?_
            refine r_iret B hr hM dX3_ask_65 ?_
            constructor
            · simp only [A_ask, sg0, sg1, sg7, sg25, sg26, sg27, sg28, sg29, sg30, sg31, sg33, sg99, hclksl] <;> grind
            · exact Rel.refl
          · refine lv_if_eq (tgt := 63) hx hb dX3_ask_51 (by decide) (fun c51 => ?_) (fun cZ => absurd (by decide) cZ)
            refine lv_ldc hx hb B.2.2.2.1 (B.ts _ q1563) dX3_ask_63 ?_
            refine r_iret B hr hM dX3_ask_65 ?_
            constructor
            · simp only [A_ask, sg0, sg1, sg7, sg25, sg26, sg27, sg28, sg29, sg30, sg31, sg33, sg99, hclksl] <;> grind
            · exact Rel.refl
      · refine lv_ldc hx hb B.2.2.2.1 (B.ts _ q1713) dX3_ask_28 ?_
        refine r_iret B hr hM dX3_ask_30 ?_
        constructor
        · simp only [A_ask, sg0, sg1, sg7, sg25, sg26, sg27, sg28, sg29, sg30, sg31, sg33, sg99, hclksl] <;> grind
        · exact Rel.refl
    · refine lv_if_ne (tgt := 19) hx hb dX3_ask_13 (by decide) (fun cZ => absurd (by decide) cZ) (fun c13 => ?_)
      refine lv_ldc hx hb B.2.2.2.1 (B.ts _ q1496) dX3_ask_16 ?_
      refine r_iret B hr hM dX3_ask_18 ?_
      constructor
      · simp only [A_ask, sg0, sg1, sg7, sg25, sg26, sg27, sg28, sg29, sg30, sg31, sg33, sg99, hclksl] <;> grind
      · exact Rel.refl
  · refine lv_if_eq (tgt := 16) hx hb dX3_ask_4 (by decide) (fun c4 => ?_) (fun cZ => absurd (by decide) cZ)
    refine lv_ldc hx hb B.2.2.2.1 (B.ts _ q1496) dX3_ask_16 ?_
    refine r_iret B hr hM dX3_ask_18 ?_
    have ib1 := mt (inC_iff (n := 5) (by omega)).mp b1
    constructor
    · simp only [A_ask, sg0, sg1, sg7, sg25, sg26, sg27, sg28, sg29, sg30, sg31, sg33, sg99] <;> grind
    · exact Rel.refl
set_option maxHeartbeats 4000000 in
theorem ok_item (hL : LayM th rh y0 ay) (hS : Sok (sg ka)) (sl q : Int32) : Met l yX3_item (ws_ yX3_item cX3_item 4 (some .int)) (RM 3 0 0) (Pc_ G [.ref y0, .int sl, .int q] th rh ph ka) (Qi G th rh ph (fun r ka' => r = A_item (sg ka) sl q ∧ Rel (sg ka) (sg ka'))) 0 0 (frG G) := by
  refine m_of (by decide) (Nat.le_of_ble_eq_true rfl) ?_
  intro p_ e_ s_ m_ below_ meth_ c_ B hr hnm ls hl hM
  have hx := B.1
  have hb := B.2.1
  have hM := hM
  refine lv_iload_n hx hb dX3_item_0 rfl (lv_at hl 1 rfl) ?_
  refine k_pb (r_S (As := [.int sl]) (rest := []) B hM (ok_isSlot sl) cal_X3_isSlot q1820 rfl hl.1 (Nat.le_of_ble_eq_true rfl) dX3_item_1 ⟨Nat.le_of_ble_eq_true rfl, Nat.le_of_ble_eq_true rfl⟩ ⟨Nat.le_of_ble_eq_true rfl, Nat.le_of_ble_eq_true rfl⟩) hM (fun H locs b1 hM => ?_) (fun H locs b1 hM => ?_)
  · obtain ⟨ksl, hksl, rfl⟩ := b1
    have hinksl : inC (nI ksl) (5) := (inC_iff (by omega)).mpr ⟨ksl, hksl, rfl⟩
    have hclksl : cl (nI ksl) = ksl := cl_nI (by omega)
    refine lv_if_ne (tgt := 10) hx hb dX3_item_4 (by decide) (fun c4 => ?_) (fun cZ => absurd cZ (by decide))
    refine lv_aload_n hx hb dX3_item_10 rfl (lv_at hl 0 rfl) ?_
    refine r_getq B hM 28 hL.1 rfl (by decide) rfl rfl (hL.2 28 _ _ rfl).1 q1410 dX3_item_11 ?_
    refine lv_iload_n hx hb dX3_item_14 rfl (lv_at hl 1 rfl) ?_
    refine r_ild B hM ksl (hL.2 28 _ _ rfl).2 rfl (by omega) (by decide) dX3_item_15 ?_
    refine lv_if_ne (tgt := 22) hx hb dX3_item_16 (by decide) (fun c16 => ?_) (fun c16 => ?_)
    · refine lv_aload_n hx hb dX3_item_22 rfl (lv_at hl 0 rfl) ?_
      refine r_getq B hM 28 hL.1 rfl (by decide) rfl rfl (hL.2 28 _ _ rfl).1 q1410 dX3_item_23 ?_
      refine lv_iload_n hx hb dX3_item_26 rfl (lv_at hl 1 rfl) ?_
      refine r_ild B hM ksl (hL.2 28 _ _ rfl).2 rfl (by omega) (by decide) dX3_item_27 ?_
      refine lv_iconst (v := 2) hx hb dX3_item_28 (by decide) ?_
      refine lv_icmp_eq (tgt := 35) hx hb dX3_item_29 (by decide) (fun c29 => ?_) (fun c29 => ?_)
      · refine lv_iload_n hx hb dX3_item_35 rfl (lv_at hl 2 rfl) ?_
        refine lv_iconst (v := 0) hx hb dX3_item_36 (by decide) ?_
        refine lv_aload_n hx hb dX3_item_37 rfl (lv_at hl 0 rfl) ?_
        refine r_getq B hM 29 hL.1 rfl (by decide) rfl rfl (hL.2 29 _ _ rfl).1 q1411 dX3_item_38 ?_
        refine lv_iload_n hx hb dX3_item_41 rfl (lv_at hl 1 rfl) ?_
        refine r_ild B hM ksl (hL.2 29 _ _ rfl).2 rfl (by omega) (by decide) dX3_item_42 ?_
        refine lv_iconst (v := 1) hx hb dX3_item_43 (by decide) ?_
        refine lv_isub hx hb dX3_item_44 ?_
        refine k_pb (r_S (As := [.int q, .int 0, .int ((ka 1029 ksl) - 1)]) (rest := []) B hM (ok_in q 0 ((ka 1029 ksl) - 1)) cal_X3_in q1493 rfl hl.1 (Nat.le_of_ble_eq_true rfl) dX3_item_45 ⟨Nat.le_of_ble_eq_true rfl, Nat.le_of_ble_eq_true rfl⟩ ⟨Nat.le_of_ble_eq_true rfl, Nat.le_of_ble_eq_true rfl⟩) hM (fun H locs b45 hM => ?_) (fun H locs b45 hM => ?_)
        · refine lv_if_ne (tgt := 55) hx hb dX3_item_48 (by decide) (fun c48 => ?_) (fun cZ => absurd cZ (by decide))
          obtain ⟨z, hz24, hz⟩ := hS.ho hksl c29
          obtain ⟨kq, hkq, rfl⟩ := (isC_iff' hz (by omega)).mp b45
          have hclkq : cl (nI kq) = kq := cl_nI (by omega)
          refine lv_aload_n hx hb dX3_item_55 rfl (lv_at hl 0 rfl) ?_
          refine r_getq B hM 31 hL.1 rfl (by decide) rfl rfl (hL.2 31 _ _ rfl).1 q1413 dX3_item_56 ?_
          refine lv_bipush (v := 24) hx hb dX3_item_59 (by decide) ?_
          refine lv_iload_n hx hb dX3_item_61 rfl (lv_at hl 1 rfl) ?_
          refine lv_imul hx hb dX3_item_62 ?_
          refine lv_iload_n hx hb dX3_item_63 rfl (lv_at hl 2 rfl) ?_
          refine lv_iadd hx hb dX3_item_64 ?_
          refine r_ild B hM (24 * ksl + kq) (hL.2 31 _ _ rfl).2 (by simp only [nA, nMu, nL]) (by omega) (by decide) dX3_item_65 ?_
          refine lv_topi (fun v_1 ev_1 => ?_)
          refine lv_istore_n (lv' := [(3, .int v_1), (0, .ref y0), (1, .int (nI ksl)), (2, .int (nI kq))]) hx hb dX3_item_66 rfl hl (by decide) rfl (fun ls hl => ?_)
          refine lv_iload_n hx hb dX3_item_67 rfl (lv_at hl 0 rfl) ?_
          refine lv_ldc hx hb B.2.2.2.1 (B.ts _ q1681) dX3_item_68 ?_
          refine lv_icmp_ne (tgt := 78) hx hb dX3_item_70 (by decide) (fun c70 => ?_) (fun c70 => ?_)
          · refine lv_iload_n hx hb dX3_item_78 rfl (lv_at hl 0 rfl) ?_
            refine r_iret B hr hM dX3_item_79 ?_
            constructor
            · simp only [A_item, sg0, sg1, sg7, sg25, sg26, sg27, sg28, sg29, sg30, sg31, sg33, sg99, hclksl, hclkq] <;> grind
            · exact Rel.refl
          · refine lv_ldc hx hb B.2.2.2.1 (B.ts _ q1563) dX3_item_73 ?_
            refine lv_goto (tgt := 79) hx hb dX3_item_75 (by decide) ?_
            refine r_iret B hr hM dX3_item_79 ?_
            constructor
            · simp only [A_item, sg0, sg1, sg7, sg25, sg26, sg27, sg28, sg29, sg30, sg31, sg33, sg99, hclksl, hclkq] <;> grind
            · exact Rel.refl
        · refine lv_if_ne (tgt := 55) hx hb dX3_item_48 (by decide) (fun cZ => absurd (by decide) cZ) (fun c48 => ?_)
          refine lv_ldcw hx hb B.2.2.2.1 (B.ts _ q1801) dX3_item_51 ?_
          refine r_iret B hr hM dX3_item_54 ?_
          constructor
          · simp only [A_item, sg0, sg1, sg7, sg25, sg26, sg27, sg28, sg29, sg30, sg31, sg33, sg99, hclksl] <;> grind
          · exact Rel.refl
      · refine lv_ldc hx hb B.2.2.2.1 (B.ts _ q1563) dX3_item_32 ?_
        refine r_iret B hr hM dX3_item_34 ?_
        constructor
        · simp only [A_item, sg0, sg1, sg7, sg25, sg26, sg27, sg28, sg29, sg30, sg31, sg33, sg99, hclksl] <;> grind
        · exact Rel.refl
    · refine lv_ldc hx hb B.2.2.2.1 (B.ts _ q1713) dX3_item_19 ?_
      refine r_iret B hr hM dX3_item_21 ?_
      constructor
      · simp only [A_item, sg0, sg1, sg7, sg25, sg26, sg27, sg28, sg29, sg30, sg31, sg33, sg99, hclksl] <;> grind
      · exact Rel.refl
  · refine lv_if_ne (tgt := 10) hx hb dX3_item_4 (by decide) (fun cZ => absurd (by decide) cZ) (fun c4 => ?_)
    refine lv_ldc hx hb B.2.2.2.1 (B.ts _ q1496) dX3_item_7 ?_
    refine r_iret B hr hM dX3_item_9 ?_
    have ib1 := mt (inC_iff (n := 5) (by omega)).mp b1
    constructor
    · simp only [A_item, sg0, sg1, sg7, sg25, sg26, sg27, sg28, sg29, sg30, sg31, sg33, sg99] <;> grind
    · exact Rel.refl
set_option maxHeartbeats 4000000 in
theorem ok_rest (hL : LayM th rh y0 ay) (sl n : Int32) : Met l yX3_rest (ws_ yX3_rest cX3_rest 3 (some .int)) (RM 3 0 0) (Pc_ G [.ref y0, .int sl, .int n] th rh ph ka) (Qi G th rh ph (fun r ka' => r = A_rest (sg ka) sl n ∧ Rel (sg ka) (sg ka'))) 0 0 (frG G) := by
  refine m_of (by decide) (Nat.le_of_ble_eq_true rfl) ?_
  intro p_ e_ s_ m_ below_ meth_ c_ B hr hnm ls hl hM
  have hx := B.1
  have hb := B.2.1
  have hM := hM
  refine lv_iload_n hx hb dX3_rest_0 rfl (lv_at hl 1 rfl) ?_
  refine k_pb (r_S (As := [.int sl]) (rest := []) B hM (ok_isSlot sl) cal_X3_isSlot q1820 rfl hl.1 (Nat.le_of_ble_eq_true rfl) dX3_rest_1 ⟨Nat.le_of_ble_eq_true rfl, Nat.le_of_ble_eq_true rfl⟩ ⟨Nat.le_of_ble_eq_true rfl, Nat.le_of_ble_eq_true rfl⟩) hM (fun H locs b1 hM => ?_) (fun H locs b1 hM => ?_)
  · obtain ⟨ksl, hksl, rfl⟩ := b1
    have hinksl : inC (nI ksl) (5) := (inC_iff (by omega)).mpr ⟨ksl, hksl, rfl⟩
    have hclksl : cl (nI ksl) = ksl := cl_nI (by omega)
    refine lv_if_ne (tgt := 10) hx hb dX3_rest_4 (by decide) (fun c4 => ?_) (fun cZ => absurd cZ (by decide))
    refine lv_aload_n hx hb dX3_rest_10 rfl (lv_at hl 0 rfl) ?_
    refine r_getq B hM 28 hL.1 rfl (by decide) rfl rfl (hL.2 28 _ _ rfl).1 q1410 dX3_rest_11 ?_
    refine lv_iload_n hx hb dX3_rest_14 rfl (lv_at hl 1 rfl) ?_
    refine r_ild B hM ksl (hL.2 28 _ _ rfl).2 rfl (by omega) (by decide) dX3_rest_15 ?_
    refine lv_if_ne (tgt := 22) hx hb dX3_rest_16 (by decide) (fun c16 => ?_) (fun c16 => ?_)
    · refine lv_aload_n hx hb dX3_rest_22 rfl (lv_at hl 0 rfl) ?_
      refine r_getq B hM 28 hL.1 rfl (by decide) rfl rfl (hL.2 28 _ _ rfl).1 q1410 dX3_rest_23 ?_
      refine lv_iload_n hx hb dX3_rest_26 rfl (lv_at hl 1 rfl) ?_
      refine r_ild B hM ksl (hL.2 28 _ _ rfl).2 rfl (by omega) (by decide) dX3_rest_27 ?_
      refine lv_iconst (v := 3) hx hb dX3_rest_28 (by decide) ?_
      refine lv_icmp_eq (tgt := 35) hx hb dX3_rest_29 (by decide) (fun c29 => ?_) (fun c29 => ?_)
      · refine lv_iload_n hx hb dX3_rest_35 rfl (lv_at hl 2 rfl) ?_
        refine lv_if_ne (tgt := 45) hx hb dX3_rest_36 (by decide) (fun c36 => ?_) (fun c36 => ?_)
        · refine lv_iload_n hx hb dX3_rest_45 rfl (lv_at hl 2 rfl) ?_
          refine lv_iconst (v := (-1)) hx hb dX3_rest_46 (by decide) ?_
          refine lv_icmp_ne (tgt := 54) hx hb dX3_rest_47 (by decide) (fun c47 => ?_) (fun c47 => ?_)
          · refine lv_aload_n hx hb dX3_rest_54 rfl (lv_at hl 0 rfl) ?_
            refine r_getq B hM 29 hL.1 rfl (by decide) rfl rfl (hL.2 29 _ _ rfl).1 q1411 dX3_rest_55 ?_
            refine lv_iload_n hx hb dX3_rest_58 rfl (lv_at hl 1 rfl) ?_
            refine r_ild B hM ksl (hL.2 29 _ _ rfl).2 rfl (by omega) (by decide) dX3_rest_59 ?_
            refine lv_iload_n hx hb dX3_rest_60 rfl (lv_at hl 2 rfl) ?_
            refine lv_irem hx hb dX3_rest_61 c36 ?_
            refine r_iret B hr hM dX3_rest_62 ?_
            constructor
            · simp only [A_rest, sg0, sg1, sg7, sg25, sg26, sg27, sg28, sg29, sg30, sg31, sg33, sg99, hclksl] <;> grind [rem]
            · exact Rel.refl
          · refine lv_iconst (v := 0) hx hb dX3_rest_50 (by decide) ?_
            refine lv_goto (tgt := 62) hx hb dX3_rest_51 (by decide) ?_
            refine r_iret B hr hM dX3_rest_62 ?_
            constructor
            · simp only [A_rest, sg0, sg1, sg7, sg25, sg26, sg27, sg28, sg29, sg30, sg31, sg33, sg99, hclksl] <;> grind [rem]
            · exact Rel.refl
        · refine lv_ldcw hx hb B.2.2.2.1 (B.ts _ q1835) dX3_rest_39 ?_
          refine lv_goto (tgt := 62) hx hb dX3_rest_42 (by decide) ?_
          refine r_iret B hr hM dX3_rest_62 ?_
          constructor
          · simp only [A_rest, sg0, sg1, sg7, sg25, sg26, sg27, sg28, sg29, sg30, sg31, sg33, sg99, hclksl] <;> grind [rem]
          · exact Rel.refl
      · refine lv_ldc hx hb B.2.2.2.1 (B.ts _ q1563) dX3_rest_32 ?_
        refine r_iret B hr hM dX3_rest_34 ?_
        constructor
        · simp only [A_rest, sg0, sg1, sg7, sg25, sg26, sg27, sg28, sg29, sg30, sg31, sg33, sg99, hclksl] <;> grind [rem]
        · exact Rel.refl
    · refine lv_ldc hx hb B.2.2.2.1 (B.ts _ q1713) dX3_rest_19 ?_
      refine r_iret B hr hM dX3_rest_21 ?_
      constructor
      · simp only [A_rest, sg0, sg1, sg7, sg25, sg26, sg27, sg28, sg29, sg30, sg31, sg33, sg99, hclksl] <;> grind [rem]
      · exact Rel.refl
  · refine lv_if_ne (tgt := 10) hx hb dX3_rest_4 (by decide) (fun cZ => absurd (by decide) cZ) (fun c4 => ?_)
    refine lv_ldc hx hb B.2.2.2.1 (B.ts _ q1496) dX3_rest_7 ?_
    refine r_iret B hr hM dX3_rest_9 ?_
    have ib1 := mt (inC_iff (n := 5) (by omega)).mp b1
    constructor
    · simp only [A_rest, sg0, sg1, sg7, sg25, sg26, sg27, sg28, sg29, sg30, sg31, sg33, sg99] <;> grind [rem]
    · exact Rel.refl
end
