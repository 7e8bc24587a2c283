/-! the model: cellars and pipes told -/
set_option maxRecDepth 100000
section
variable {l : Launch} {G : GG} {th : Th} {rh : Rh} {ph : Ph} {ka : Ka} {y0 : Nat} {ay : Nat → Nat}
set_option maxHeartbeats 4000000 in
theorem ok_isCellar (hL : LayM th rh y0 ay) (hR : Rok (ka 1000)) (c : Int32) : Met l yX3_isCellar (ws_ yX3_isCellar cX3_isCellar 2 (some .boolean)) (RM 2 0 0) (Pc_ G [.ref y0, .int c] th rh ph ka) (Qp G th rh ph ka (fun r => (r = 1 ∧ ∃ k : Nat, k < nC (ka 1000) ∧ c = nI k) ∨ (r = 0 ∧ ¬ ∃ k : Nat, k < nC (ka 1000) ∧ c = nI k))) 0 0 (frG G) := by
  refine m_of (by decide) (Nat.le_of_ble_eq_true rfl) ?_
  intro p_ e_ s_ m_ below_ meth_ c_ B hr hnm ls hl hM
  have hx := B.1
  have hb := B.2.1
  have hM := hM
  refine lv_iload_n hx hb dX3_isCellar_0 rfl (lv_at hl 1 rfl) ?_
  refine lv_iconst (v := 0) hx hb dX3_isCellar_1 (by decide) ?_
  refine lv_aload_n hx hb dX3_isCellar_2 rfl (lv_at hl 0 rfl) ?_
  refine r_getq B hM 0 hL.1 rfl (by decide) rfl rfl (hL.2 0 _ _ rfl).1 q1382 dX3_isCellar_3 ?_
  refine lv_iconst (v := 1) hx hb dX3_isCellar_6 (by decide) ?_
  refine r_ild B hM 1 (hL.2 0 _ _ rfl).2 rfl (by decide) (by decide) dX3_isCellar_7 ?_
  refine lv_iconst (v := 1) hx hb dX3_isCellar_8 (by decide) ?_
  refine lv_isub hx hb dX3_isCellar_9 ?_
  refine k_pb (r_S (As := [.int c, .int 0, .int ((ka 1000 1) - 1)]) (rest := []) B hM (ok_in c 0 ((ka 1000 1) - 1)) cal_X3_in q1493 rfl hl.1 (Nat.le_of_ble_eq_true rfl) dX3_isCellar_10 ⟨Nat.le_of_ble_eq_true rfl, Nat.le_of_ble_eq_true rfl⟩ ⟨Nat.le_of_ble_eq_true rfl, Nat.le_of_ble_eq_true rfl⟩) hM (fun H locs b10 hM => ?_) (fun H locs b10 hM => ?_)
  · refine r_zretp B hr hM dX3_isCellar_13 (Or.inr rfl) ?_
    exact Or.inl ⟨rfl, (isC_iff' hR.1.1 (by have := hR.1.2; omega)).mp b10⟩
  · refine r_zretp B hr hM dX3_isCellar_13 (Or.inl rfl) ?_
    exact Or.inr ⟨rfl, fun z => b10 ((isC_iff' hR.1.1 (by have := hR.1.2; omega)).mpr z)⟩
set_option maxHeartbeats 4000000 in
theorem ok_isPipe (hL : LayM th rh y0 ay) (hR : Rok (ka 1000)) (c : Int32) : Met l yX3_isPipe (ws_ yX3_isPipe cX3_isPipe 2 (some .boolean)) (RM 2 0 0) (Pc_ G [.ref y0, .int c] th rh ph ka) (Qp G th rh ph ka (fun r => (r = 1 ∧ ∃ k : Nat, k < nP (ka 1000) ∧ c = nI k) ∨ (r = 0 ∧ ¬ ∃ k : Nat, k < nP (ka 1000) ∧ c = nI k))) 0 0 (frG G) := by
  refine m_of (by decide) (Nat.le_of_ble_eq_true rfl) ?_
  intro p_ e_ s_ m_ below_ meth_ c_ B hr hnm ls hl hM
  have hx := B.1
  have hb := B.2.1
  have hM := hM
  refine lv_iload_n hx hb dX3_isPipe_0 rfl (lv_at hl 1 rfl) ?_
  refine lv_iconst (v := 0) hx hb dX3_isPipe_1 (by decide) ?_
  refine lv_aload_n hx hb dX3_isPipe_2 rfl (lv_at hl 0 rfl) ?_
  refine r_getq B hM 0 hL.1 rfl (by decide) rfl rfl (hL.2 0 _ _ rfl).1 q1382 dX3_isPipe_3 ?_
  refine lv_iconst (v := 2) hx hb dX3_isPipe_6 (by decide) ?_
  refine r_ild B hM 2 (hL.2 0 _ _ rfl).2 rfl (by decide) (by decide) dX3_isPipe_7 ?_
  refine lv_iconst (v := 1) hx hb dX3_isPipe_8 (by decide) ?_
  refine lv_isub hx hb dX3_isPipe_9 ?_
  refine k_pb (r_S (As := [.int c, .int 0, .int ((ka 1000 2) - 1)]) (rest := []) B hM (ok_in c 0 ((ka 1000 2) - 1)) cal_X3_in q1493 rfl hl.1 (Nat.le_of_ble_eq_true rfl) dX3_isPipe_10 ⟨Nat.le_of_ble_eq_true rfl, Nat.le_of_ble_eq_true rfl⟩ ⟨Nat.le_of_ble_eq_true rfl, Nat.le_of_ble_eq_true rfl⟩) hM (fun H locs b10 hM => ?_) (fun H locs b10 hM => ?_)
  · refine r_zretp B hr hM dX3_isPipe_13 (Or.inr rfl) ?_
    exact Or.inl ⟨rfl, (isC_iff' hR.2.1.1 (by have := hR.2.1.2; omega)).mp b10⟩
  · refine r_zretp B hr hM dX3_isPipe_13 (Or.inl rfl) ?_
    exact Or.inr ⟨rfl, fun z => b10 ((isC_iff' hR.2.1.1 (by have := hR.2.1.2; omega)).mpr z)⟩
set_option maxHeartbeats 4000000 in
theorem ok_isSheet (c : Int32) : Met l yX3_isSheet (ws_ yX3_isSheet cX3_isSheet 1 (some .boolean)) (RM 2 0 0) (Pc_ G [.int c] th rh ph ka) (Qp G th rh ph ka (fun r => (r = 1 ∧ ∃ k : Nat, k < 4 ∧ c = nI k) ∨ (r = 0 ∧ ¬ ∃ k : Nat, k < 4 ∧ c = nI k))) 0 0 (frG G) := by
  refine m_of (by decide) (Nat.le_of_ble_eq_true rfl) ?_
  intro p_ e_ s_ m_ below_ meth_ c_ B hr hnm ls hl hM
  have hx := B.1
  have hb := B.2.1
  have hM := hM
  refine lv_iload_n hx hb dX3_isSheet_0 rfl (lv_at hl 0 rfl) ?_
  refine lv_iconst (v := 0) hx hb dX3_isSheet_1 (by decide) ?_
  refine lv_iconst (v := 3) hx hb dX3_isSheet_2 (by decide) ?_
  refine k_pb (r_S (As := [.int c, .int 0, .int 3]) (rest := []) B hM (ok_in c 0 3) cal_X3_in q1493 rfl hl.1 (Nat.le_of_ble_eq_true rfl) dX3_isSheet_3 ⟨Nat.le_of_ble_eq_true rfl, Nat.le_of_ble_eq_true rfl⟩ ⟨Nat.le_of_ble_eq_true rfl, Nat.le_of_ble_eq_true rfl⟩) hM (fun H locs b3 hM => ?_) (fun H locs b3 hM => ?_)
  · refine r_zretp B hr hM dX3_isSheet_6 (Or.inr rfl) ?_
    exact Or.inl ⟨rfl, (isC_iff (n := 4) (by decide)).mp b3⟩
  · refine r_zretp B hr hM dX3_isSheet_6 (Or.inl rfl) ?_
    exact Or.inr ⟨rfl, fun z => b3 ((isC_iff (n := 4) (by decide)).mpr z)⟩
set_option maxHeartbeats 4000000 in
theorem ok_isSlot (c : Int32) : Met l yX3_isSlot (ws_ yX3_isSlot cX3_isSlot 1 (some .boolean)) (RM 2 0 0) (Pc_ G [.int c] th rh ph ka) (Qp G th rh ph ka (fun r => (r = 1 ∧ ∃ k : Nat, k < 5 ∧ c = nI k) ∨ (r = 0 ∧ ¬ ∃ k : Nat, k < 5 ∧ c = nI k))) 0 0 (frG G) := by
  refine m_of (by decide) (Nat.le_of_ble_eq_true rfl) ?_
  intro p_ e_ s_ m_ below_ meth_ c_ B hr hnm ls hl hM
  have hx := B.1
  have hb := B.2.1
  have hM := hM
  refine lv_iload_n hx hb dX3_isSlot_0 rfl (lv_at hl 0 rfl) ?_
  refine lv_iconst (v := 0) hx hb dX3_isSlot_1 (by decide) ?_
  refine lv_iconst (v := 4) hx hb dX3_isSlot_2 (by decide) ?_
  refine k_pb (r_S (As := [.int c, .int 0, .int 4]) (rest := []) B hM (ok_in c 0 4) cal_X3_in q1493 rfl hl.1 (Nat.le_of_ble_eq_true rfl) dX3_isSlot_3 ⟨Nat.le_of_ble_eq_true rfl, Nat.le_of_ble_eq_true rfl⟩ ⟨Nat.le_of_ble_eq_true rfl, Nat.le_of_ble_eq_true rfl⟩) hM (fun H locs b3 hM => ?_) (fun H locs b3 hM => ?_)
  · refine r_zretp B hr hM dX3_isSlot_6 (Or.inr rfl) ?_
    exact Or.inl ⟨rfl, (isC_iff (n := 5) (by decide)).mp b3⟩
  · refine r_zretp B hr hM dX3_isSlot_6 (Or.inl rfl) ?_
    exact Or.inr ⟨rfl, fun z => b3 ((isC_iff (n := 5) (by decide)).mpr z)⟩
set_option maxHeartbeats 4000000 in
theorem ok_isUnder (kd one : Int32) : Met l yX3_isUnder (ws_ yX3_isUnder cX3_isUnder 2 (some .boolean)) (RM 1 0 0) (Pc_ G [.int kd, .int one] th rh ph ka) (Qp G th rh ph ka (fun r => (r = 1 ∧ underT kd one) ∨ (r = 0 ∧ ¬ underT kd one))) 0 0 (frG G) := by
  refine m_of (by decide) (Nat.le_of_ble_eq_true rfl) ?_
  intro p_ e_ s_ m_ below_ meth_ c_ B hr hnm ls hl hM
  have hx := B.1
  have hb := B.2.1
  have hM := hM
  refine lv_iload_n hx hb dX3_isUnder_0 rfl (lv_at hl 1 rfl) ?_
  refine lv_if_eq (tgt := 29) hx hb dX3_isUnder_1 (by decide) (fun c1 => ?_) (fun c1 => ?_)
  · refine lv_iconst (v := 1) hx hb dX3_isUnder_29 (by decide) ?_
    refine lv_goto (tgt := 34) hx hb dX3_isUnder_30 (by decide) ?_
    refine r_zretp B hr hM dX3_isUnder_34 (Or.inr rfl) ?_
    grind
  · refine lv_iload_n hx hb dX3_isUnder_4 rfl (lv_at hl 0 rfl) ?_
    refine lv_iload_n hx hb dX3_isUnder_5 rfl (lv_at hl 1 rfl) ?_
    refine lv_icmp_eq (tgt := 29) hx hb dX3_isUnder_6 (by decide) (fun c6 => ?_) (fun c6 => ?_)
    · refine lv_iconst (v := 1) hx hb dX3_isUnder_29 (by decide) ?_
      refine lv_goto (tgt := 34) hx hb dX3_isUnder_30 (by decide) ?_
      refine r_zretp B hr hM dX3_isUnder_34 (Or.inr rfl) ?_
      grind
    · refine lv_iload_n hx hb dX3_isUnder_9 rfl (lv_at hl 1 rfl) ?_
      refine lv_iconst (v := 1) hx hb dX3_isUnder_10 (by decide) ?_
      refine lv_icmp_ne (tgt := 19) hx hb dX3_isUnder_11 (by decide) (fun c11 => ?_) (fun c11 => ?_)
      · refine lv_iload_n hx hb dX3_isUnder_19 rfl (lv_at hl 1 rfl) ?_
        refine lv_iconst (v := 2) hx hb dX3_isUnder_20 (by decide) ?_
        refine lv_icmp_ne (tgt := 33) hx hb dX3_isUnder_21 (by decide) (fun c21 => ?_) (fun c21 => ?_)
        · refine lv_iconst (v := 0) hx hb dX3_isUnder_33 (by decide) ?_
          refine r_zretp B hr hM dX3_isUnder_34 (Or.inl rfl) ?_
          grind
        · refine lv_iload_n hx hb dX3_isUnder_24 rfl (lv_at hl 0 rfl) ?_
          refine lv_iconst (v := 4) hx hb dX3_isUnder_25 (by decide) ?_
          refine lv_icmp_ne (tgt := 33) hx hb dX3_isUnder_26 (by decide) (fun c26 => ?_) (fun c26 => ?_)
          · refine lv_iconst (v := 0) hx hb dX3_isUnder_33 (by decide) ?_
            refine r_zretp B hr hM dX3_isUnder_34 (Or.inl rfl) ?_
            grind
          · refine lv_iconst (v := 1) hx hb dX3_isUnder_29 (by decide) ?_
            refine lv_goto (tgt := 34) hx hb dX3_isUnder_30 (by decide) ?_
            refine r_zretp B hr hM dX3_isUnder_34 (Or.inr rfl) ?_
            grind
      · refine lv_iload_n hx hb dX3_isUnder_14 rfl (lv_at hl 0 rfl) ?_
        refine lv_iconst (v := 3) hx hb dX3_isUnder_15 (by decide) ?_
        refine lv_icmp_eq (tgt := 29) hx hb dX3_isUnder_16 (by decide) (fun c16 => ?_) (fun c16 => ?_)
        · refine lv_iconst (v := 1) hx hb dX3_isUnder_29 (by decide) ?_
          refine lv_goto (tgt := 34) hx hb dX3_isUnder_30 (by decide) ?_
          refine r_zretp B hr hM dX3_isUnder_34 (Or.inr rfl) ?_
          grind
        · refine lv_iload_n hx hb dX3_isUnder_19 rfl (lv_at hl 1 rfl) ?_
          refine lv_iconst (v := 2) hx hb dX3_isUnder_20 (by decide) ?_
          refine lv_icmp_ne (tgt := 33) hx hb dX3_isUnder_21 (by decide) (fun c21 => ?_) (fun c21 => ?_)
          · refine lv_iconst (v := 0) hx hb dX3_isUnder_33 (by decide) ?_
            refine r_zretp B hr hM dX3_isUnder_34 (Or.inl rfl) ?_
            grind
          · refine lv_iload_n hx hb dX3_isUnder_24 rfl (lv_at hl 0 rfl) ?_
            refine lv_iconst (v := 4) hx hb dX3_isUnder_25 (by decide) ?_
            refine lv_icmp_ne (tgt := 33) hx hb dX3_isUnder_26 (by decide) (fun c26 => ?_) (fun c26 => ?_)
            · refine lv_iconst (v := 0) hx hb dX3_isUnder_33 (by decide) ?_
              refine r_zretp B hr hM dX3_isUnder_34 (Or.inl rfl) ?_
              grind
            · refine lv_iconst (v := 1) hx hb dX3_isUnder_29 (by decide) ?_
              refine lv_goto (tgt := 34) hx hb dX3_isUnder_30 (by decide) ?_
              refine r_zretp B hr hM dX3_isUnder_34 (Or.inr rfl) ?_
              grind
set_option maxHeartbeats 4000000 in
theorem ok_fullOf (hL : LayM th rh y0 ay) {c : Nat} (hc : c < 8) : Met l yX3_fullOf (ws_ yX3_fullOf cX3_fullOf 2 (some .int)) (RM 2 0 0) (Pc_ G [.ref y0, .int (nI c)] th rh ph ka) (Qp G th rh ph ka (fun r => r = fullT (ka 1000) c)) 0 0 (frG G) := by
  refine m_of (by decide) (Nat.le_of_ble_eq_true rfl) ?_
  intro p_ e_ s_ m_ below_ meth_ c_ B hr hnm ls hl hM
  have hx := B.1
  have hb := B.2.1
  have hM := hM
  refine lv_aload_n hx hb dX3_fullOf_0 rfl (lv_at hl 0 rfl) ?_
  refine lv_iload_n hx hb dX3_fullOf_1 rfl (lv_at hl 1 rfl) ?_
  refine lv_iconst (v := 3) hx hb dX3_fullOf_2 (by decide) ?_
  refine k_pe (v := ka 1000 (7 + 6 * c + 3)) (r_V (As := [.int (nI c), .int 3]) (rest := []) B hM hL.1 rfl rfl (ok_of hL (c := c) (w := 3) (by omega) (by omega)) cal_X3_of q1510 rfl hl.1 (Nat.le_of_ble_eq_true rfl) dX3_fullOf_3 ⟨Nat.le_of_ble_eq_true rfl, Nat.le_of_ble_eq_true rfl⟩ ⟨Nat.le_of_ble_eq_true rfl, Nat.le_of_ble_eq_true rfl⟩) hM (fun H locs hM => ?_)
  refine lv_aload_n hx hb dX3_fullOf_6 rfl (lv_at hl 0 rfl) ?_
  refine lv_iload_n hx hb dX3_fullOf_7 rfl (lv_at hl 1 rfl) ?_
  refine lv_iconst (v := 4) hx hb dX3_fullOf_8 (by decide) ?_
  refine k_pe (v := ka 1000 (7 + 6 * c + 4)) (r_V (As := [.int (nI c), .int 4]) (rest := [.int (ka 1000 (7 + 6 * c + 3))]) B hM hL.1 rfl rfl (ok_of hL (c := c) (w := 4) (by omega) (by omega)) cal_X3_of q1510 rfl hl.1 (Nat.le_of_ble_eq_true rfl) dX3_fullOf_9 ⟨Nat.le_of_ble_eq_true rfl, Nat.le_of_ble_eq_true rfl⟩ ⟨Nat.le_of_ble_eq_true rfl, Nat.le_of_ble_eq_true rfl⟩) hM (fun H locs hM => ?_)
  refine lv_iadd hx hb dX3_fullOf_12 ?_
  refine lv_aload_n hx hb dX3_fullOf_13 rfl (lv_at hl 0 rfl) ?_
  refine lv_iload_n hx hb dX3_fullOf_14 rfl (lv_at hl 1 rfl) ?_
  refine lv_iconst (v := 5) hx hb dX3_fullOf_15 (by decide) ?_
  refine k_pe (v := ka 1000 (7 + 6 * c + 5)) (r_V (As := [.int (nI c), .int 5]) (rest := [.int ((ka 1000 (7 + 6 * c + 3)) + (ka 1000 (7 + 6 * c + 4)))]) B hM hL.1 rfl rfl (ok_of hL (c := c) (w := 5) (by omega) (by omega)) cal_X3_of q1510 rfl hl.1 (Nat.le_of_ble_eq_true rfl) dX3_fullOf_16 ⟨Nat.le_of_ble_eq_true rfl, Nat.le_of_ble_eq_true rfl⟩ ⟨Nat.le_of_ble_eq_true rfl, Nat.le_of_ble_eq_true rfl⟩) hM (fun H locs hM => ?_)
  refine lv_iadd hx hb dX3_fullOf_19 ?_
  refine r_iretp B hr hM dX3_fullOf_20 ?_
  exact rfl
set_option maxHeartbeats 4000000 in
theorem ok_takesIn (hL : LayM th rh y0 ay) {c : Nat} (hc : c < 8) (n : Int32) : Met l yX3_takesIn (ws_ yX3_takesIn cX3_takesIn 3 (some .int)) (RM 2 0 0) (Pc_ G [.ref y0, .int (nI c), .int n] th rh ph ka) (Qp G th rh ph ka (fun r => r = takesT (ka 1000) c n)) 0 0 (frG G) := by
  refine m_of (by decide) (Nat.le_of_ble_eq_true rfl) ?_
  intro p_ e_ s_ m_ below_ meth_ c_ B hr hnm ls hl hM
  have hx := B.1
  have hb := B.2.1
  have hM := hM
  refine lv_aload_n hx hb dX3_takesIn_0 rfl (lv_at hl 0 rfl) ?_
  refine lv_iload_n hx hb dX3_takesIn_1 rfl (lv_at hl 1 rfl) ?_
  refine lv_iconst (v := 0) hx hb dX3_takesIn_2 (by decide) ?_
  refine k_pe (v := ka 1000 (7 + 6 * c + 0)) (r_V (As := [.int (nI c), .int 0]) (rest := []) B hM hL.1 rfl rfl (ok_of hL (c := c) (w := 0) (by omega) (by omega)) cal_X3_of q1510 rfl hl.1 (Nat.le_of_ble_eq_true rfl) dX3_takesIn_3 ⟨Nat.le_of_ble_eq_true rfl, Nat.le_of_ble_eq_true rfl⟩ ⟨Nat.le_of_ble_eq_true rfl, Nat.le_of_ble_eq_true rfl⟩) hM (fun H locs hM => ?_)
  refine lv_iconst (v := 3) hx hb dX3_takesIn_6 (by decide) ?_
  refine lv_icmp_ne (tgt := 16) hx hb dX3_takesIn_7 (by decide) (fun c7 => ?_) (fun c7 => ?_)
  · refine lv_aload_n hx hb dX3_takesIn_16 rfl (lv_at hl 0 rfl) ?_
    refine lv_iload_n hx hb dX3_takesIn_17 rfl (lv_at hl 1 rfl) ?_
    refine lv_iconst (v := 0) hx hb dX3_takesIn_18 (by decide) ?_
    refine k_pe (v := ka 1000 (7 + 6 * c + 0)) (r_V (As := [.int (nI c), .int 0]) (rest := []) B hM hL.1 rfl rfl (ok_of hL (c := c) (w := 0) (by omega) (by omega)) cal_X3_of q1510 rfl hl.1 (Nat.le_of_ble_eq_true rfl) dX3_takesIn_19 ⟨Nat.le_of_ble_eq_true rfl, Nat.le_of_ble_eq_true rfl⟩ ⟨Nat.le_of_ble_eq_true rfl, Nat.le_of_ble_eq_true rfl⟩) hM (fun H locs hM => ?_)
    refine lv_iconst (v := 5) hx hb dX3_takesIn_22 (by decide) ?_
    refine lv_icmp_ne (tgt := 30) hx hb dX3_takesIn_23 (by decide) (fun c23 => ?_) (fun c23 => ?_)
    · refine lv_iload_n hx hb dX3_takesIn_30 rfl (lv_at hl 2 rfl) ?_
      refine r_iretp B hr hM dX3_takesIn_31 ?_
      simp_all [takesT]
    · refine lv_iconst (v := 0) hx hb dX3_takesIn_26 (by decide) ?_
      refine lv_goto (tgt := 31) hx hb dX3_takesIn_27 (by decide) ?_
      refine r_iretp B hr hM dX3_takesIn_31 ?_
      simp_all [takesT]
  · refine lv_iload_n hx hb dX3_takesIn_10 rfl (lv_at hl 2 rfl) ?_
    refine lv_iconst (v := 2) hx hb dX3_takesIn_11 (by decide) ?_
    refine lv_idiv hx hb dX3_takesIn_12 (by decide) ?_
    refine lv_goto (tgt := 31) hx hb dX3_takesIn_13 (by decide) ?_
    refine r_iretp B hr hM dX3_takesIn_31 ?_
    simp_all [takesT]
set_option maxHeartbeats 4000000 in
theorem ok_losesOf (hL : LayM th rh y0 ay) {c : Nat} (hc : c < 8) : Met l yX3_losesOf (ws_ yX3_losesOf cX3_losesOf 3 (some .int)) (RM 3 0 0) (Pc_ G [.ref y0, .int (nI c)] th rh ph ka) (Qp G th rh ph ka (fun r => r = losesT (ka 1000) c)) 0 0 (frG G) := by
  refine m_of (by decide) (Nat.le_of_ble_eq_true rfl) ?_
  intro p_ e_ s_ m_ below_ meth_ c_ B hr hnm ls hl hM
  have hx := B.1
  have hb := B.2.1
  have hM := hM
  refine lv_aload_n hx hb dX3_losesOf_0 rfl (lv_at hl 0 rfl) ?_
  refine lv_iload_n hx hb dX3_losesOf_1 rfl (lv_at hl 1 rfl) ?_
  refine k_pe (v := fullT (ka 1000) c) (r_V (As := [.int (nI c)]) (rest := []) B hM hL.1 rfl rfl (ok_fullOf hL (c := c) (by omega)) cal_X3_fullOf q1514 rfl hl.1 (Nat.le_of_ble_eq_true rfl) dX3_losesOf_2 ⟨Nat.le_of_ble_eq_true rfl, Nat.le_of_ble_eq_true rfl⟩ ⟨Nat.le_of_ble_eq_true rfl, Nat.le_of_ble_eq_true rfl⟩) hM (fun H locs hM => ?_)
  refine lv_bipush (v := 20) hx hb dX3_losesOf_5 (by decide) ?_
  refine lv_idiv hx hb dX3_losesOf_7 (by decide) ?_
  refine lv_topi (fun v_1 ev_1 => ?_)
  refine lv_istore_n (lv' := [(2, .int v_1), (0, .ref y0), (1, .int (nI c))]) hx hb dX3_losesOf_8 rfl hl (by decide) rfl (fun ls hl => ?_)
  refine lv_aload_n hx hb dX3_losesOf_9 rfl (lv_at hl 1 rfl) ?_
  refine lv_iload_n hx hb dX3_losesOf_10 rfl (lv_at hl 2 rfl) ?_
  refine lv_iconst (v := 0) hx hb dX3_losesOf_11 (by decide) ?_
  refine k_pe (v := ka 1000 (7 + 6 * c + 0)) (r_V (As := [.int (nI c), .int 0]) (rest := []) B hM hL.1 rfl rfl (ok_of hL (c := c) (w := 0) (by omega) (by omega)) cal_X3_of q1510 rfl hl.1 (Nat.le_of_ble_eq_true rfl) dX3_losesOf_12 ⟨Nat.le_of_ble_eq_true rfl, Nat.le_of_ble_eq_true rfl⟩ ⟨Nat.le_of_ble_eq_true rfl, Nat.le_of_ble_eq_true rfl⟩) hM (fun H locs hM => ?_)
  by_cases w15_2 : ka 1000 (7 + 6 * c + 0) = 2
  · refine lv_lookup (tgt := 40) (off := 25) hx hb dX3_losesOf_15 (by decide) (by rw [w15_2]; decide) (by decide) ?_
    refine lv_iload_n hx hb dX3_losesOf_40 rfl (lv_at hl 0 rfl) ?_
    refine r_iretp B hr hM dX3_losesOf_41 ?_
    grind [losesT]
  by_cases w15_4 : ka 1000 (7 + 6 * c + 0) = 4
  · refine lv_lookup (tgt := 42) (off := 27) hx hb dX3_losesOf_15 (by decide) (by rw [w15_4]; decide) (by decide) ?_
    refine lv_iload_n hx hb dX3_losesOf_42 rfl (lv_at hl 0 rfl) ?_
    refine lv_iconst (v := 1) hx hb dX3_losesOf_43 (by decide) ?_
    refine lv_icmp_ge (tgt := 51) hx hb dX3_losesOf_44 (by decide) (fun c44 => ?_) (fun c44 => ?_)
    · refine lv_iload_n hx hb dX3_losesOf_51 rfl (lv_at hl 0 rfl) ?_
      refine lv_iconst (v := 1) hx hb dX3_losesOf_52 (by decide) ?_
      refine lv_isub hx hb dX3_losesOf_53 ?_
      refine r_iretp B hr hM dX3_losesOf_54 ?_
      grind [losesT]
    · refine lv_iconst (v := 0) hx hb dX3_losesOf_47 (by decide) ?_
      refine lv_goto (tgt := 54) hx hb dX3_losesOf_48 (by decide) ?_
      refine r_iretp B hr hM dX3_losesOf_54 ?_
      grind [losesT]
  have tw15_2 : Int32.toInt (ka 1000 (7 + 6 * c + 0)) ≠ 2 := fun z => w15_2 (Int32.toInt_inj.mp (z.trans (by decide)))
  have tw15_4 : Int32.toInt (ka 1000 (7 + 6 * c + 0)) ≠ 4 := fun z => w15_4 (Int32.toInt_inj.mp (z.trans (by decide)))
  refine lv_lookup (tgt := 55) (off := 40) hx hb dX3_losesOf_15 (by decide) (by clear hM hl; generalize Int32.toInt (ka 1000 (7 + 6 * c + 0)) = zz at tw15_2 tw15_4 ⊢; simp [Op.lookupswitch.offset, Ne.symm tw15_2, Ne.symm tw15_4]) (by decide) ?_
  refine lv_iconst (v := 0) hx hb dX3_losesOf_55 (by decide) ?_
  refine r_iretp B hr hM dX3_losesOf_56 ?_
  grind [losesT]
set_option maxHeartbeats 4000000 in
theorem ok_worthOf (hL : LayM th rh y0 ay) {c : Nat} (hc : c < 8) : Met l yX3_worthOf (ws_ yX3_worthOf cX3_worthOf 3 (some .int)) (RM 2 0 0) (Pc_ G [.ref y0, .int (nI c)] th rh ph ka) (Qp G th rh ph ka (fun r => r = worthT (ka 1000) c)) 0 0 (frG G) := by
  refine m_of (by decide) (Nat.le_of_ble_eq_true rfl) ?_
  intro p_ e_ s_ m_ below_ meth_ c_ B hr hnm ls hl hM
  have hx := B.1
  have hb := B.2.1
  have hM := hM
  refine lv_aload_n hx hb dX3_worthOf_0 rfl (lv_at hl 0 rfl) ?_
  refine lv_iload_n hx hb dX3_worthOf_1 rfl (lv_at hl 1 rfl) ?_
  refine lv_iconst (v := 2) hx hb dX3_worthOf_2 (by decide) ?_
  refine k_pe (v := ka 1000 (7 + 6 * c + 2)) (r_V (As := [.int (nI c), .int 2]) (rest := []) B hM hL.1 rfl rfl (ok_of hL (c := c) (w := 2) (by omega) (by omega)) cal_X3_of q1510 rfl hl.1 (Nat.le_of_ble_eq_true rfl) dX3_worthOf_3 ⟨Nat.le_of_ble_eq_true rfl, Nat.le_of_ble_eq_true rfl⟩ ⟨Nat.le_of_ble_eq_true rfl, Nat.le_of_ble_eq_true rfl⟩) hM (fun H locs hM => ?_)
  refine lv_topi (fun v_1 ev_1 => ?_)
  refine lv_istore_n (lv' := [(2, .int v_1), (0, .ref y0), (1, .int (nI c))]) hx hb dX3_worthOf_6 rfl hl (by decide) rfl (fun ls hl => ?_)
  refine lv_aload_n hx hb dX3_worthOf_7 rfl (lv_at hl 1 rfl) ?_
  refine lv_iload_n hx hb dX3_worthOf_8 rfl (lv_at hl 2 rfl) ?_
  refine lv_iconst (v := 0) hx hb dX3_worthOf_9 (by decide) ?_
  refine k_pe (v := ka 1000 (7 + 6 * c + 0)) (r_V (As := [.int (nI c), .int 0]) (rest := []) B hM hL.1 rfl rfl (ok_of hL (c := c) (w := 0) (by omega) (by omega)) cal_X3_of q1510 rfl hl.1 (Nat.le_of_ble_eq_true rfl) dX3_worthOf_10 ⟨Nat.le_of_ble_eq_true rfl, Nat.le_of_ble_eq_true rfl⟩ ⟨Nat.le_of_ble_eq_true rfl, Nat.le_of_ble_eq_true rfl⟩) hM (fun H locs hM => ?_)
  by_cases w13_1 : ka 1000 (7 + 6 * c + 0) = 1
  · refine lv_tableIn (tgt := 48) (off := 35) hx hb dX3_worthOf_13 (by rw [w13_1]; decide) (by rw [w13_1]; decide) (by rw [w13_1]; rfl) (by decide) ?_
    refine lv_iload_n hx hb dX3_worthOf_48 rfl (lv_at hl 0 rfl) ?_
    refine lv_bipush (v := 6) hx hb dX3_worthOf_49 (by decide) ?_
    refine lv_iadd hx hb dX3_worthOf_51 ?_
    refine r_iretp B hr hM dX3_worthOf_52 ?_
    simp_all [worthT]
  by_cases w13_2 : ka 1000 (7 + 6 * c + 0) = 2
  · refine lv_tableIn (tgt := 53) (off := 40) hx hb dX3_worthOf_13 (by rw [w13_2]; decide) (by rw [w13_2]; decide) (by rw [w13_2]; rfl) (by decide) ?_
    refine lv_bipush (v := 99) hx hb dX3_worthOf_53 (by decide) ?_
    refine lv_iload_n hx hb dX3_worthOf_55 rfl (lv_at hl 0 rfl) ?_
    refine lv_isub hx hb dX3_worthOf_56 ?_
    refine r_iretp B hr hM dX3_worthOf_57 ?_
    simp_all [worthT]
  by_cases w13_3 : ka 1000 (7 + 6 * c + 0) = 3
  · refine lv_tableIn (tgt := 58) (off := 45) hx hb dX3_worthOf_13 (by rw [w13_3]; decide) (by rw [w13_3]; decide) (by rw [w13_3]; rfl) (by decide) ?_
    refine lv_iconst (v := 2) hx hb dX3_worthOf_58 (by decide) ?_
    refine lv_iload_n hx hb dX3_worthOf_59 rfl (lv_at hl 0 rfl) ?_
    refine lv_bipush (v := 6) hx hb dX3_worthOf_60 (by decide) ?_
    refine lv_iadd hx hb dX3_worthOf_62 ?_
    refine lv_imul hx hb dX3_worthOf_63 ?_
    refine r_iretp B hr hM dX3_worthOf_64 ?_
    simp_all [worthT]
  by_cases w13_4 : ka 1000 (7 + 6 * c + 0) = 4
  · refine lv_tableIn (tgt := 65) (off := 52) hx hb dX3_worthOf_13 (by rw [w13_4]; decide) (by rw [w13_4]; decide) (by rw [w13_4]; rfl) (by decide) ?_
    refine lv_bipush (v := 91) hx hb dX3_worthOf_65 (by decide) ?_
    refine lv_iload_n hx hb dX3_worthOf_67 rfl (lv_at hl 0 rfl) ?_
    refine lv_isub hx hb dX3_worthOf_68 ?_
    refine r_iretp B hr hM dX3_worthOf_69 ?_
    simp_all [worthT]
  by_cases w13_5 : ka 1000 (7 + 6 * c + 0) = 5
  · refine lv_tableIn (tgt := 70) (off := 57) hx hb dX3_worthOf_13 (by rw [w13_5]; decide) (by rw [w13_5]; decide) (by rw [w13_5]; rfl) (by decide) ?_
    refine lv_iconst (v := 3) hx hb dX3_worthOf_70 (by decide) ?_
    refine r_iretp B hr hM dX3_worthOf_71 ?_
    simp_all [worthT]
  have tw13_1 : Int32.toInt (ka 1000 (7 + 6 * c + 0)) ≠ 1 := fun z => w13_1 (Int32.toInt_inj.mp (z.trans (by decide)))
  have tw13_2 : Int32.toInt (ka 1000 (7 + 6 * c + 0)) ≠ 2 := fun z => w13_2 (Int32.toInt_inj.mp (z.trans (by decide)))
  have tw13_3 : Int32.toInt (ka 1000 (7 + 6 * c + 0)) ≠ 3 := fun z => w13_3 (Int32.toInt_inj.mp (z.trans (by decide)))
  have tw13_4 : Int32.toInt (ka 1000 (7 + 6 * c + 0)) ≠ 4 := fun z => w13_4 (Int32.toInt_inj.mp (z.trans (by decide)))
  have tw13_5 : Int32.toInt (ka 1000 (7 + 6 * c + 0)) ≠ 5 := fun z => w13_5 (Int32.toInt_inj.mp (z.trans (by decide)))
  refine lv_tableOut (tgt := 72) hx hb dX3_worthOf_13 (by omega) (by decide) ?_
  refine lv_iload_n hx hb dX3_worthOf_72 rfl (lv_at hl 0 rfl) ?_
  refine r_iretp B hr hM dX3_worthOf_73 ?_
  simp_all [worthT]
set_option maxHeartbeats 4000000 in
theorem ok_draw (hL : LayM th rh y0 ay)  : Met l yX3_draw (ws_ yX3_draw cX3_draw 1 (some .int)) (RM 1 0 0) (Pc_ G [.ref y0] th rh ph ka) (Qi G th rh ph (fun r ka' => r = z8 (drawT (ka 1000 0)) ∧ ka' = up2 ka 1000 0 (drawT (ka 1000 0)))) 0 0 (frG G) := by
  refine m_of (by decide) (Nat.le_of_ble_eq_true rfl) ?_
  intro p_ e_ s_ m_ below_ meth_ c_ B hr hnm ls hl hM
  have hx := B.1
  have hb := B.2.1
  have hM := hM
  refine lv_aload_n hx hb dX3_draw_0 rfl (lv_at hl 0 rfl) ?_
  refine r_getq B hM 0 hL.1 rfl (by decide) rfl rfl (hL.2 0 _ _ rfl).1 q1382 dX3_draw_1 ?_
  refine lv_iconst (v := 0) hx hb dX3_draw_4 (by decide) ?_
  refine lv_aload_n hx hb dX3_draw_5 rfl (lv_at hl 0 rfl) ?_
  refine r_getq B hM 0 hL.1 rfl (by decide) rfl rfl (hL.2 0 _ _ rfl).1 q1382 dX3_draw_6 ?_
  refine lv_iconst (v := 0) hx hb dX3_draw_9 (by decide) ?_
  refine r_ild B hM 0 (hL.2 0 _ _ rfl).2 rfl (by decide) (by decide) dX3_draw_10 ?_
  refine lv_ldc hx hb B.2.2.2.1 (B.ts _ q1620) dX3_draw_11 ?_
  refine lv_imul hx hb dX3_draw_13 ?_
  refine lv_sipush (v := 12345) hx hb dX3_draw_14 (by decide) ?_
  refine lv_iadd hx hb dX3_draw_17 ?_
  refine r_ist B hM 0 (hL.2 0 _ _ rfl).2 rfl (by decide) (by decide) dX3_draw_18 (fun ka_1 H locs eka_1 hM => ?_)
  refine lv_aload_n hx hb dX3_draw_19 rfl (lv_at hl 0 rfl) ?_
  refine r_getq B hM 0 hL.1 rfl (by decide) rfl rfl (hL.2 0 _ _ rfl).1 q1382 dX3_draw_20 ?_
  refine lv_iconst (v := 0) hx hb dX3_draw_23 (by decide) ?_
  refine r_ild B hM 0 (hL.2 0 _ _ rfl).2 rfl (by decide) (by decide) dX3_draw_24 ?_
  refine lv_bipush (v := 8) hx hb dX3_draw_25 (by decide) ?_
  refine lv_iushr hx hb dX3_draw_27 rfl ?_
  refine r_iret B hr hM dX3_draw_28 ?_
  subst eka_1; exact ⟨by rw [up2_s]; rfl, rfl⟩
set_option maxHeartbeats 4000000 in
theorem ok_lays (hL : LayM th rh y0 ay) {q : Nat} (hq : q < 13) (a b w : Int32) : Met l yX3_lays (ws_ yX3_lays cX3_lays 6 none) (RM 1 0 0) (Pc_ G [.ref y0, .int (nI q), .int a, .int b, .int w] th rh ph ka) (Qv G th rh ph (fun ka' => ka' = up1 ka 1000 (layT (ka 1000) q a b w))) 0 0 (frG G) := by
  refine m_of (by decide) (Nat.le_of_ble_eq_true rfl) ?_
  intro p_ e_ s_ m_ below_ meth_ c_ B hr hnm ls hl hM
  have hx := B.1
  have hb := B.2.1
  have hM := hM
  refine lv_bipush (v := 55) hx hb dX3_lays_0 (by decide) ?_
  refine lv_iconst (v := 4) hx hb dX3_lays_2 (by decide) ?_
  refine lv_iload_n hx hb dX3_lays_3 rfl (lv_at hl 1 rfl) ?_
  refine lv_imul hx hb dX3_lays_4 ?_
  refine lv_iadd hx hb dX3_lays_5 ?_
  refine lv_istore (lv' := [(5, .int (55 + (4 * (nI q)))), (0, .ref y0), (1, .int (nI q)), (2, .int a), (3, .int b), (4, .int w)]) hx hb dX3_lays_6 hl (by decide) rfl (fun ls hl => ?_)
  refine lv_aload_n hx hb dX3_lays_8 rfl (lv_at hl 1 rfl) ?_
  refine r_getq B hM 0 hL.1 rfl (by decide) rfl rfl (hL.2 0 _ _ rfl).1 q1382 dX3_lays_9 ?_
  refine lv_iload hx hb dX3_lays_12 (lv_at hl 0 rfl) ?_
  refine lv_iload_n hx hb dX3_lays_14 rfl (lv_at hl 3 rfl) ?_
  refine r_ist B hM (55 + 4 * q) (hL.2 0 _ _ rfl).2 (by simp only [nA, nMu, nL]) (by omega) (by decide) dX3_lays_15 (fun ka_1 H locs eka_1 hM => ?_)
  refine lv_aload_n hx hb dX3_lays_16 rfl (lv_at hl 1 rfl) ?_
  refine r_getq B hM 0 hL.1 rfl (by decide) rfl rfl (hL.2 0 _ _ rfl).1 q1382 dX3_lays_17 ?_
  refine lv_iload hx hb dX3_lays_20 (lv_at hl 0 rfl) ?_
  refine lv_iconst (v := 1) hx hb dX3_lays_22 (by decide) ?_
  refine lv_iadd hx hb dX3_lays_23 ?_
  refine lv_iload_n hx hb dX3_lays_24 rfl (lv_at hl 4 rfl) ?_
  refine r_ist B hM (55 + 4 * q + 1) (hL.2 0 _ _ rfl).2 (by simp only [nA, nMu, nL]) (by omega) (by decide) dX3_lays_25 (fun ka_2 H locs eka_2 hM => ?_)
  refine lv_aload_n hx hb dX3_lays_26 rfl (lv_at hl 1 rfl) ?_
  refine r_getq B hM 0 hL.1 rfl (by decide) rfl rfl (hL.2 0 _ _ rfl).1 q1382 dX3_lays_27 ?_
  refine lv_iload hx hb dX3_lays_30 (lv_at hl 0 rfl) ?_
  refine lv_iconst (v := 2) hx hb dX3_lays_32 (by decide) ?_
  refine lv_iadd hx hb dX3_lays_33 ?_
  refine lv_iload hx hb dX3_lays_34 (lv_at hl 5 rfl) ?_
  refine r_ist B hM (55 + 4 * q + 2) (hL.2 0 _ _ rfl).2 (by simp only [nA, nMu, nL]) (by omega) (by decide) dX3_lays_36 (fun ka_3 H locs eka_3 hM => ?_)
  refine lv_aload_n hx hb dX3_lays_37 rfl (lv_at hl 1 rfl) ?_
  refine r_getq B hM 0 hL.1 rfl (by decide) rfl rfl (hL.2 0 _ _ rfl).1 q1382 dX3_lays_38 ?_
  refine lv_iload hx hb dX3_lays_41 (lv_at hl 0 rfl) ?_
  refine lv_iconst (v := 3) hx hb dX3_lays_43 (by decide) ?_
  refine lv_iadd hx hb dX3_lays_44 ?_
  refine lv_iconst (v := 0) hx hb dX3_lays_45 (by decide) ?_
  refine r_ist B hM (55 + 4 * q + 3) (hL.2 0 _ _ rfl).2 (by simp only [nA, nMu, nL]) (by omega) (by decide) dX3_lays_46 (fun ka_4 H locs eka_4 hM => ?_)
  refine r_vret B hr hM dX3_lays_47 ?_
  subst eka_1 eka_2 eka_3 eka_4
  funext j i
  by_cases hj : j = 1000
  · subst hj; simp only [up2, up1_s, layT]; grind
  · rw [up1_a _ _ hj]; simp [up2, hj]
set_option maxHeartbeats 4000000 in
theorem ok_two (sg a b : Int32) (hs : -9 ≤ sg ∧ sg < 0) : Met l yX3_two (ws_ yX3_two cX3_two 3 (some .int)) (RM 1 0 0) (Pc_ G [.int sg, .int a, .int b] th rh ph ka) (Qp G th rh ph ka (fun r => r = twoT sg a b)) 0 0 (frG G) := by
  refine m_of (by decide) (Nat.le_of_ble_eq_true rfl) ?_
  intro p_ e_ s_ m_ below_ meth_ c_ B hr hnm ls hl hM
  have hx := B.1
  have hb := B.2.1
  have hM := hM
  refine lv_iload_n hx hb dX3_two_0 rfl (lv_at hl 0 rfl) ?_
  by_cases w1_8 : sg = (-8)
  · refine lv_tableIn (tgt := 117) (off := 116) hx hb dX3_two_1 (by rw [w1_8]; decide) (by rw [w1_8]; decide) (by rw [w1_8]; rfl) (by decide) ?_
    refine lv_iload_n hx hb dX3_two_117 rfl (lv_at hl 1 rfl) ?_
    refine lv_iload_n hx hb dX3_two_118 rfl (lv_at hl 2 rfl) ?_
    refine lv_imul hx hb dX3_two_119 ?_
    refine r_iretp B hr hM dX3_two_120 ?_
    simp_all [twoT]
  by_cases w1_7 : sg = (-7)
  · refine lv_tableIn (tgt := 113) (off := 112) hx hb dX3_two_1 (by rw [w1_7]; decide) (by rw [w1_7]; decide) (by rw [w1_7]; rfl) (by decide) ?_
    refine lv_iload_n hx hb dX3_two_113 rfl (lv_at hl 1 rfl) ?_
    refine lv_iload_n hx hb dX3_two_114 rfl (lv_at hl 2 rfl) ?_
    refine lv_isub hx hb dX3_two_115 ?_
    refine r_iretp B hr hM dX3_two_116 ?_
    simp_all [twoT]
  by_cases w1_6 : sg = (-6)
  · refine lv_tableIn (tgt := 109) (off := 108) hx hb dX3_two_1 (by rw [w1_6]; decide) (by rw [w1_6]; decide) (by rw [w1_6]; rfl) (by decide) ?_
    refine lv_iload_n hx hb dX3_two_109 rfl (lv_at hl 1 rfl) ?_
    refine lv_iload_n hx hb dX3_two_110 rfl (lv_at hl 2 rfl) ?_
    refine lv_iadd hx hb dX3_two_111 ?_
    refine r_iretp B hr hM dX3_two_112 ?_
    simp_all [twoT]
  by_cases w1_5 : sg = (-5)
  · refine lv_tableIn (tgt := 98) (off := 97) hx hb dX3_two_1 (by rw [w1_5]; decide) (by rw [w1_5]; decide) (by rw [w1_5]; rfl) (by decide) ?_
    refine lv_iload_n hx hb dX3_two_98 rfl (lv_at hl 1 rfl) ?_
    refine lv_iload_n hx hb dX3_two_99 rfl (lv_at hl 2 rfl) ?_
    refine lv_icmp_le (tgt := 107) hx hb dX3_two_100 (by decide) (fun c100 => ?_) (fun c100 => ?_)
    · refine lv_iconst (v := 0) hx hb dX3_two_107 (by decide) ?_
      refine r_iretp B hr hM dX3_two_108 ?_
      simp_all [twoT]
    · refine lv_iconst (v := 1) hx hb dX3_two_103 (by decide) ?_
      refine lv_goto (tgt := 108) hx hb dX3_two_104 (by decide) ?_
      refine r_iretp B hr hM dX3_two_108 ?_
      simp_all [twoT]
  by_cases w1_4 : sg = (-4)
  · refine lv_tableIn (tgt := 87) (off := 86) hx hb dX3_two_1 (by rw [w1_4]; decide) (by rw [w1_4]; decide) (by rw [w1_4]; rfl) (by decide) ?_
    refine lv_iload_n hx hb dX3_two_87 rfl (lv_at hl 1 rfl) ?_
    refine lv_iload_n hx hb dX3_two_88 rfl (lv_at hl 2 rfl) ?_
    refine lv_icmp_ne (tgt := 96) hx hb dX3_two_89 (by decide) (fun c89 => ?_) (fun c89 => ?_)
    · refine lv_iconst (v := 0) hx hb dX3_two_96 (by decide) ?_
      refine r_iretp B hr hM dX3_two_97 ?_
      simp_all [twoT]
    · refine lv_iconst (v := 1) hx hb dX3_two_92 (by decide) ?_
      refine lv_goto (tgt := 97) hx hb dX3_two_93 (by decide) ?_
      refine r_iretp B hr hM dX3_two_97 ?_
      simp_all [twoT]
  by_cases w1_3 : sg = (-3)
  · refine lv_tableIn (tgt := 76) (off := 75) hx hb dX3_two_1 (by rw [w1_3]; decide) (by rw [w1_3]; decide) (by rw [w1_3]; rfl) (by decide) ?_
    refine lv_iload_n hx hb dX3_two_76 rfl (lv_at hl 1 rfl) ?_
    refine lv_iload_n hx hb dX3_two_77 rfl (lv_at hl 2 rfl) ?_
    refine lv_icmp_ge (tgt := 85) hx hb dX3_two_78 (by decide) (fun c78 => ?_) (fun c78 => ?_)
    · refine lv_iconst (v := 0) hx hb dX3_two_85 (by decide) ?_
      refine r_iretp B hr hM dX3_two_86 ?_
      simp_all [twoT]
    · refine lv_iconst (v := 1) hx hb dX3_two_81 (by decide) ?_
      refine lv_goto (tgt := 86) hx hb dX3_two_82 (by decide) ?_
      refine r_iretp B hr hM dX3_two_86 ?_
      simp_all [twoT]
  by_cases w1_2 : sg = (-2)
  · refine lv_tableIn (tgt := 62) (off := 61) hx hb dX3_two_1 (by rw [w1_2]; decide) (by rw [w1_2]; decide) (by rw [w1_2]; rfl) (by decide) ?_
    refine lv_iload_n hx hb dX3_two_62 rfl (lv_at hl 1 rfl) ?_
    refine lv_if_eq (tgt := 74) hx hb dX3_two_63 (by decide) (fun c63 => ?_) (fun c63 => ?_)
    · refine lv_iconst (v := 0) hx hb dX3_two_74 (by decide) ?_
      refine r_iretp B hr hM dX3_two_75 ?_
      simp_all [twoT]
    · refine lv_iload_n hx hb dX3_two_66 rfl (lv_at hl 2 rfl) ?_
      refine lv_if_eq (tgt := 74) hx hb dX3_two_67 (by decide) (fun c67 => ?_) (fun c67 => ?_)
      · refine lv_iconst (v := 0) hx hb dX3_two_74 (by decide) ?_
        refine r_iretp B hr hM dX3_two_75 ?_
        simp_all [twoT]
      · refine lv_iconst (v := 1) hx hb dX3_two_70 (by decide) ?_
        refine lv_goto (tgt := 75) hx hb dX3_two_71 (by decide) ?_
        refine r_iretp B hr hM dX3_two_75 ?_
        simp_all [twoT]
  by_cases w1_1 : sg = (-1)
  · refine lv_tableIn (tgt := 48) (off := 47) hx hb dX3_two_1 (by rw [w1_1]; decide) (by rw [w1_1]; decide) (by rw [w1_1]; rfl) (by decide) ?_
    refine lv_iload_n hx hb dX3_two_48 rfl (lv_at hl 1 rfl) ?_
    refine lv_if_ne (tgt := 56) hx hb dX3_two_49 (by decide) (fun c49 => ?_) (fun c49 => ?_)
    · refine lv_iconst (v := 1) hx hb dX3_two_56 (by decide) ?_
      refine lv_goto (tgt := 61) hx hb dX3_two_57 (by decide) ?_
      refine r_iretp B hr hM dX3_two_61 ?_
      simp_all [twoT]
    · refine lv_iload_n hx hb dX3_two_52 rfl (lv_at hl 2 rfl) ?_
      refine lv_if_eq (tgt := 60) hx hb dX3_two_53 (by decide) (fun c53 => ?_) (fun c53 => ?_)
      · refine lv_iconst (v := 0) hx hb dX3_two_60 (by decide) ?_
        refine r_iretp B hr hM dX3_two_61 ?_
        simp_all [twoT]
      · refine lv_iconst (v := 1) hx hb dX3_two_56 (by decide) ?_
        refine lv_goto (tgt := 61) hx hb dX3_two_57 (by decide) ?_
        refine r_iretp B hr hM dX3_two_61 ?_
        simp_all [twoT]
  have tw1_8 : Int32.toInt (sg) ≠ -8 := fun z => w1_8 (Int32.toInt_inj.mp (z.trans (by decide)))
  have tw1_7 : Int32.toInt (sg) ≠ -7 := fun z => w1_7 (Int32.toInt_inj.mp (z.trans (by decide)))
  have tw1_6 : Int32.toInt (sg) ≠ -6 := fun z => w1_6 (Int32.toInt_inj.mp (z.trans (by decide)))
  have tw1_5 : Int32.toInt (sg) ≠ -5 := fun z => w1_5 (Int32.toInt_inj.mp (z.trans (by decide)))
  have tw1_4 : Int32.toInt (sg) ≠ -4 := fun z => w1_4 (Int32.toInt_inj.mp (z.trans (by decide)))
  have tw1_3 : Int32.toInt (sg) ≠ -3 := fun z => w1_3 (Int32.toInt_inj.mp (z.trans (by decide)))
  have tw1_2 : Int32.toInt (sg) ≠ -2 := fun z => w1_2 (Int32.toInt_inj.mp (z.trans (by decide)))
  have tw1_1 : Int32.toInt (sg) ≠ -1 := fun z => w1_1 (Int32.toInt_inj.mp (z.trans (by decide)))
  refine lv_tableOut (tgt := 121) hx hb dX3_two_1 (by omega) (by decide) ?_
  refine lv_iload_n hx hb dX3_two_121 rfl (lv_at hl 2 rfl) ?_
  refine lv_if_ne (tgt := 129) hx hb dX3_two_122 (by decide) (fun c122 => ?_) (fun c122 => ?_)
  · refine lv_iload_n hx hb dX3_two_129 rfl (lv_at hl 1 rfl) ?_
    refine lv_iload_n hx hb dX3_two_130 rfl (lv_at hl 2 rfl) ?_
    refine lv_idiv hx hb dX3_two_131 (by assumption) ?_
    refine r_iretp B hr hM dX3_two_132 ?_
    simp_all [twoT]
  · refine lv_iconst (v := 0) hx hb dX3_two_125 (by decide) ?_
    refine lv_goto (tgt := 132) hx hb dX3_two_126 (by decide) ?_
    refine r_iretp B hr hM dX3_two_132 ?_
    simp_all [twoT]
end
