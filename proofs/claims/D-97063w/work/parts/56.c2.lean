/-! the component: trees and their worth -/
set_option maxRecDepth 100000
section
variable {l : Launch} {G : GG} {th : Th} {rh : Rh} {ph : Ph} {ka : Ka} {A : XA}
abbrev yWorth : MethodName := ⟨"LevelCellars$Worth", "worth", "()I"⟩
theorem evC_app {f : Nat → Int32} {C D st : List Int32} : evC f (C ++ D) st = evC f D (evC f C st) := by unfold evC; rw [List.foldl_append]
theorem tw_43 (a b : Int32) : twoT (sgnV 43) a b = a + b := by simp [sgnV, twoT]
theorem tw_45 (a b : Int32) : twoT (sgnV 45) a b = a - b := by simp [sgnV, twoT]
theorem tw_42 (a b : Int32) : twoT (sgnV 42) a b = a * b := by simp [sgnV, twoT]
theorem tw_47 (a b : Int32) : twoT (sgnV 47) a b = if b = 0 then 0 else a / b := by simp [sgnV, twoT]
theorem tw_60 (a b : Int32) : twoT (sgnV 60) a b = if a < b then 1 else 0 := by simp [sgnV, twoT]
theorem tw_61 (a b : Int32) : twoT (sgnV 61) a b = if a = b then 1 else 0 := by simp [sgnV, twoT]
theorem tw_62 (a b : Int32) : twoT (sgnV 62) a b = if b < a then 1 else 0 := by simp [sgnV, twoT]
theorem tw_38 (a b : Int32) : twoT (sgnV 38) a b = if a ≠ 0 ∧ b ≠ 0 then 1 else 0 := by simp [sgnV, twoT]
theorem tw_124 (a b : Int32) : twoT (sgnV 124) a b = if a ≠ 0 ∨ b ≠ 0 then 1 else 0 := by simp [sgnV, twoT]
theorem sgnV_b (s : Int32) : sgnV s < 0 ∨ sgnV s = 0 := by unfold sgnV; grind
theorem sgnV_10 (s : Int32) : ¬ sgnV s = -10 := by unfold sgnV; grind
theorem ev_two {f : Nat → Int32} {D E st : List Int32} {s x y : Int32} (hs : sgnV s ≠ 0) (hD : ∀ st, evC f D st = x :: st) (hE : ∀ st, evC f E st = y :: st) : evC f (D ++ (E ++ [sgnV s])) st = twoT (sgnV s) x y :: st := by
  rw [evC_app, hD, evC_app, hE]
  show stepC f (y :: x :: st) (sgnV s) = _
  exact stepC_two ((sgnV_b s).resolve_right hs) (sgnV_10 s)
theorem ev_not {f : Nat → Int32} {D st : List Int32} {x : Int32} (hD : ∀ st, evC f D st = x :: st) : evC f (D ++ [-10]) st = (if x = 0 then 1 else 0) :: st := by
  rw [evC_app, hD]
  show stepC f (x :: st) (-10) = _
  exact stepC_not rfl
set_option maxHeartbeats 4000000 in
theorem ok_X12_worth {e : Nat} (he : th e = some (10000 + e, .inl 12))  : Met l yX12_worth (ws_ yX12_worth cX12_worth 1 (some .int)) (RM 1 0 0) (Pc_ G [.ref e] th rh ph ka) (Qp G th rh ph ka (fun r => r = ka (10000 + e) 0)) 0 0 (frG G) := by
  refine m_of (by decide) (Nat.le_of_ble_eq_true rfl) ?_
  intro p_ e_ s_ m_ below_ meth_ c_ B hr hnm ls hl hM
  have hx := B.1
  have hb := B.2.1
  have hM := hM
  refine lv_aload_n hx hb dX12_worth_0 rfl (lv_at hl 0 rfl) ?_
  refine r_geti B hM 0 he rfl (by decide) rfl rfl q1084 dX12_worth_1 ?_
  refine r_iretp B hr hM dX12_worth_4 ?_
  rfl
set_option maxHeartbeats 4000000 in
theorem ok_X13_worth (hO : LayO th rh A) {e : Nat} (he : th e = some (10000 + e, .inl 13)) (hx1 : rh (10000 + e) 1 = some A.x) {k : Nat} (hk128 : k < 128) (hk : ka (10000 + e) 0 = nI k) : Met l yX13_worth (ws_ yX13_worth cX13_worth 1 (some .int)) (RM 1 0 0) (Pc_ G [.ref e] th rh ph ka) (Qp G th rh ph ka (fun r => r = ka 6 k)) 0 0 (frG G) := by
  refine m_of (by decide) (Nat.le_of_ble_eq_true rfl) ?_
  intro p_ e_ s_ m_ below_ meth_ c_ B hr hnm ls hl hM
  have hx := B.1
  have hb := B.2.1
  have hM := hM
  refine lv_aload_n hx hb dX13_worth_0 rfl (lv_at hl 0 rfl) ?_
  refine r_getq B hM 1 he rfl (by decide) rfl rfl hx1 q1095 dX13_worth_1 ?_
  refine r_getqN B hM 5 hO.1 rfl (by decide) rfl rfl (hO.2 5 _ _ rfl).1 q198 dX13_worth_4 ?_
  refine lv_aload_n hx hb dX13_worth_7 rfl (lv_at hl 0 rfl) ?_
  refine r_geti B hM 0 he rfl (by decide) rfl rfl q1094 dX13_worth_8 ?_
  refine r_ild B hM k (hO.2 5 _ _ rfl).2 (by rw [hk]) (by omega) (by decide) dX13_worth_11 ?_
  refine r_iretp B hr hM dX13_worth_12 ?_
  rfl
set_option maxHeartbeats 4000000 in
theorem ok_X10_over (a b : Int32) : Met l yX10_over (ws_ yX10_over cX10_over 2 (some .int)) (RM 1 0 0) (Pc_ G [.int a, .int b] th rh ph ka) (Qp G th rh ph ka (fun r => r = if b = 0 then 0 else a / b)) 0 0 (frG G) := by
  refine m_of (by decide) (Nat.le_of_ble_eq_true rfl) ?_
  intro p_ e_ s_ m_ below_ meth_ c_ B hr hnm ls hl hM
  have hx := B.1
  have hb := B.2.1
  have hM := hM
  refine lv_iload_n hx hb dX10_over_0 rfl (lv_at hl 1 rfl) ?_
  refine lv_if_ne (tgt := 8) hx hb dX10_over_1 (by decide) (fun c1 => ?_) (fun c1 => ?_)
  · refine lv_iload_n hx hb dX10_over_8 rfl (lv_at hl 0 rfl) ?_
    refine lv_iload_n hx hb dX10_over_9 rfl (lv_at hl 1 rfl) ?_
    refine lv_idiv hx hb dX10_over_10 c1 ?_
    refine r_iretp B hr hM dX10_over_11 ?_
    rw [if_neg c1]
  · refine lv_iconst (v := 0) hx hb dX10_over_4 (by decide) ?_
    refine lv_goto (tgt := 11) hx hb dX10_over_5 (by decide) ?_
    refine r_iretp B hr hM dX10_over_11 ?_
    rw [if_pos c1]
set_option maxHeartbeats 4000000 in
theorem ok_X14_worth {h : Nat} {f : Nat → Int32} {D : List Int32} {d : Nat} {e : Nat} (he : th e = some (10000 + e, .inl 14)) (hd : rh (10000 + e) 0 = some d) (hF : FaceAt l G yWorth d [] (some .int) 0 (h + 1) 0 0 th rh ph ka (Qp G th rh ph ka (fun r => ∀ st, evC f (D) st = r :: st))) : Met l yX14_worth (ws_ yX14_worth cX14_worth 1 (some .int)) (RM (h + 2) 0 0) (Pc_ G [.ref e] th rh ph ka) (Qp G th rh ph ka (fun r => ∀ st, evC f (D ++ [-10]) st = r :: st)) 0 0 (frG G) := by
  refine m_of (by decide) (Nat.le_of_ble_eq_true rfl) ?_
  intro p_ e_ s_ m_ below_ meth_ c_ B hr hnm ls hl hM
  have hx := B.1
  have hb := B.2.1
  have hM := hM
  refine lv_aload_n hx hb dX14_worth_0 rfl (lv_at hl 0 rfl) ?_
  refine r_getq B hM 0 he rfl (by decide) rfl rfl hd q1111 dX14_worth_1 ?_
  refine k_p5 (r_FA (As := []) (rest := []) B hM (hF) q478 rfl hl.1 (Nat.le_of_ble_eq_true rfl) dX14_worth_4 ⟨Nat.le_refl _, by show 27 + 64 * (h + 1) ≤ 64 * (h + 2); omega⟩ ⟨Nat.le_of_ble_eq_true rfl, Nat.le_of_ble_eq_true rfl⟩) hM (fun x_ H locs hx_ hM => ?_)
  refine lv_if_ne (tgt := 16) hx hb dX14_worth_9 (by decide) (fun c9 => ?_) (fun c9 => ?_)
  · refine lv_iconst (v := 0) hx hb dX14_worth_16 (by decide) ?_
    refine r_iretp B hr hM dX14_worth_17 ?_
    intro st
    rw [ev_not hx_, if_neg c9]
  · refine lv_iconst (v := 1) hx hb dX14_worth_12 (by decide) ?_
    refine lv_goto (tgt := 17) hx hb dX14_worth_13 (by decide) ?_
    refine r_iretp B hr hM dX14_worth_17 ?_
    intro st
    rw [ev_not hx_, if_pos c9]
set_option maxHeartbeats 4000000 in
theorem ok_X10_worth {h : Nat} {f : Nat → Int32} {D E : List Int32} {c d : Nat} {e : Nat} (he : th e = some (10000 + e, .inl 10)) (hc : rh (10000 + e) 1 = some c) (hd : rh (10000 + e) 2 = some d) (hsn : sgnV (ka (10000 + e) 0) ≠ 0) (hF : FaceAt l G yWorth c [] (some .int) 0 (h + 1) 0 0 th rh ph ka (Qp G th rh ph ka (fun r => ∀ st, evC f (D) st = r :: st))) (hF2 : FaceAt l G yWorth d [] (some .int) 0 (h + 1) 0 0 th rh ph ka (Qp G th rh ph ka (fun r => ∀ st, evC f (E) st = r :: st))) : Met l yX10_worth (ws_ yX10_worth cX10_worth 3 (some .int)) (RM (h + 2) 0 0) (Pc_ G [.ref e] th rh ph ka) (Qp G th rh ph ka (fun r => ∀ st, evC f (D ++ (E ++ [sgnV (ka (10000 + e) 0)])) st = r :: st)) 0 0 (frG G) := by
  refine m_of (by decide) (Nat.le_of_ble_eq_true rfl) ?_
  intro p_ e_ s_ m_ below_ meth_ c_ B hr hnm ls hl hM
  have hx := B.1
  have hb := B.2.1
  have hM := hM
  refine lv_aload_n hx hb dX10_worth_0 rfl (lv_at hl 0 rfl) ?_
  refine r_getq B hM 1 he rfl (by decide) rfl rfl hc q1122 dX10_worth_1 ?_
  refine k_p5 (r_FA (As := []) (rest := []) B hM (hF) q492 rfl hl.1 (Nat.le_of_ble_eq_true rfl) dX10_worth_4 ⟨Nat.le_refl _, by show 27 + 64 * (h + 1) ≤ 64 * (h + 2); omega⟩ ⟨Nat.le_of_ble_eq_true rfl, Nat.le_of_ble_eq_true rfl⟩) hM (fun x_ H locs hx_ hM => ?_)
  refine lv_istore_n (lv' := [(1, .int x_), (0, .ref e)]) hx hb dX10_worth_9 rfl hl (by decide) rfl (fun ls hl => ?_)
  refine lv_aload_n hx hb dX10_worth_10 rfl (lv_at hl 1 rfl) ?_
  refine r_getq B hM 2 he rfl (by decide) rfl rfl hd q1123 dX10_worth_11 ?_
  refine k_p5 (r_FA (As := []) (rest := []) B hM (hF2) q492 rfl hl.1 (Nat.le_of_ble_eq_true rfl) dX10_worth_14 ⟨Nat.le_refl _, by show 27 + 64 * (h + 1) ≤ 64 * (h + 2); omega⟩ ⟨Nat.le_of_ble_eq_true rfl, Nat.le_of_ble_eq_true rfl⟩) hM (fun y_ H locs hy_ hM => ?_)
  refine lv_istore_n (lv' := [(2, .int y_), (1, .int x_), (0, .ref e)]) hx hb dX10_worth_19 rfl hl (by decide) rfl (fun ls hl => ?_)
  refine lv_aload_n hx hb dX10_worth_20 rfl (lv_at hl 2 rfl) ?_
  refine r_geti B hM 0 he rfl (by decide) rfl rfl q1121 dX10_worth_21 ?_
  by_cases w24_38 : ka (10000 + e) 0 = 38
  · refine lv_tableIn (tgt := 191) (off := 167) hx hb dX10_worth_24 (by rw [w24_38]; decide) (by rw [w24_38]; decide) (by rw [w24_38]; rfl) (by decide) ?_
    refine lv_iload_n hx hb dX10_worth_191 rfl (lv_at hl 1 rfl) ?_
    refine lv_if_eq (tgt := 203) hx hb dX10_worth_192 (by decide) (fun c192 => ?_) (fun c192 => ?_)
    · refine lv_iconst (v := 0) hx hb dX10_worth_203 (by decide) ?_
      refine r_iretp B hr hM dX10_worth_204 ?_
      intro st
      rw [ev_two hsn hx_ hy_]
      rw [w24_38, tw_38]
      grind
    · refine lv_iload_n hx hb dX10_worth_195 rfl (lv_at hl 0 rfl) ?_
      refine lv_if_eq (tgt := 203) hx hb dX10_worth_196 (by decide) (fun c196 => ?_) (fun c196 => ?_)
      · refine lv_iconst (v := 0) hx hb dX10_worth_203 (by decide) ?_
        refine r_iretp B hr hM dX10_worth_204 ?_
        intro st
        rw [ev_two hsn hx_ hy_]
        rw [w24_38, tw_38]
        grind
      · refine lv_iconst (v := 1) hx hb dX10_worth_199 (by decide) ?_
        refine lv_goto (tgt := 204) hx hb dX10_worth_200 (by decide) ?_
        refine r_iretp B hr hM dX10_worth_204 ?_
        intro st
        rw [ev_two hsn hx_ hy_]
        rw [w24_38, tw_38]
        grind
  by_cases w24_39 : ka (10000 + e) 0 = 39
  · refine lv_tableIn (tgt := 205) (off := 181) hx hb dX10_worth_24 (by rw [w24_39]; decide) (by rw [w24_39]; decide) (by rw [w24_39]; rfl) (by decide) ?_
    refine lv_iload_n hx hb dX10_worth_205 rfl (lv_at hl 1 rfl) ?_
    refine lv_if_ne (tgt := 213) hx hb dX10_worth_206 (by decide) (fun c206 => ?_) (fun c206 => ?_)
    · refine lv_iconst (v := 1) hx hb dX10_worth_213 (by decide) ?_
      refine lv_goto (tgt := 218) hx hb dX10_worth_214 (by decide) ?_
      refine r_iretp B hr hM dX10_worth_218 ?_
      exact absurd (by rw [w24_39]; decide) hsn
    · refine lv_iload_n hx hb dX10_worth_209 rfl (lv_at hl 0 rfl) ?_
      refine lv_if_eq (tgt := 217) hx hb dX10_worth_210 (by decide) (fun c210 => ?_) (fun c210 => ?_)
      · refine lv_iconst (v := 0) hx hb dX10_worth_217 (by decide) ?_
        refine r_iretp B hr hM dX10_worth_218 ?_
        exact absurd (by rw [w24_39]; decide) hsn
      · refine lv_iconst (v := 1) hx hb dX10_worth_213 (by decide) ?_
        refine lv_goto (tgt := 218) hx hb dX10_worth_214 (by decide) ?_
        refine r_iretp B hr hM dX10_worth_218 ?_
        exact absurd (by rw [w24_39]; decide) hsn
  by_cases w24_40 : ka (10000 + e) 0 = 40
  · refine lv_tableIn (tgt := 205) (off := 181) hx hb dX10_worth_24 (by rw [w24_40]; decide) (by rw [w24_40]; decide) (by rw [w24_40]; rfl) (by decide) ?_
    refine lv_iload_n hx hb dX10_worth_205 rfl (lv_at hl 1 rfl) ?_
    refine lv_if_ne (tgt := 213) hx hb dX10_worth_206 (by decide) (fun c206 => ?_) (fun c206 => ?_)
    · refine lv_iconst (v := 1) hx hb dX10_worth_213 (by decide) ?_
      refine lv_goto (tgt := 218) hx hb dX10_worth_214 (by decide) ?_
      refine r_iretp B hr hM dX10_worth_218 ?_
      exact absurd (by rw [w24_40]; decide) hsn
    · refine lv_iload_n hx hb dX10_worth_209 rfl (lv_at hl 0 rfl) ?_
      refine lv_if_eq (tgt := 217) hx hb dX10_worth_210 (by decide) (fun c210 => ?_) (fun c210 => ?_)
      · refine lv_iconst (v := 0) hx hb dX10_worth_217 (by decide) ?_
        refine r_iretp B hr hM dX10_worth_218 ?_
        exact absurd (by rw [w24_40]; decide) hsn
      · refine lv_iconst (v := 1) hx hb dX10_worth_213 (by decide) ?_
        refine lv_goto (tgt := 218) hx hb dX10_worth_214 (by decide) ?_
        refine r_iretp B hr hM dX10_worth_218 ?_
        exact absurd (by rw [w24_40]; decide) hsn
  by_cases w24_41 : ka (10000 + e) 0 = 41
  · refine lv_tableIn (tgt := 205) (off := 181) hx hb dX10_worth_24 (by rw [w24_41]; decide) (by rw [w24_41]; decide) (by rw [w24_41]; rfl) (by decide) ?_
    refine lv_iload_n hx hb dX10_worth_205 rfl (lv_at hl 1 rfl) ?_
    refine lv_if_ne (tgt := 213) hx hb dX10_worth_206 (by decide) (fun c206 => ?_) (fun c206 => ?_)
    · refine lv_iconst (v := 1) hx hb dX10_worth_213 (by decide) ?_
      refine lv_goto (tgt := 218) hx hb dX10_worth_214 (by decide) ?_
      refine r_iretp B hr hM dX10_worth_218 ?_
      exact absurd (by rw [w24_41]; decide) hsn
    · refine lv_iload_n hx hb dX10_worth_209 rfl (lv_at hl 0 rfl) ?_
      refine lv_if_eq (tgt := 217) hx hb dX10_worth_210 (by decide) (fun c210 => ?_) (fun c210 => ?_)
      · refine lv_iconst (v := 0) hx hb dX10_worth_217 (by decide) ?_
        refine r_iretp B hr hM dX10_worth_218 ?_
        exact absurd (by rw [w24_41]; decide) hsn
      · refine lv_iconst (v := 1) hx hb dX10_worth_213 (by decide) ?_
        refine lv_goto (tgt := 218) hx hb dX10_worth_214 (by decide) ?_
        refine r_iretp B hr hM dX10_worth_218 ?_
        exact absurd (by rw [w24_41]; decide) hsn
  by_cases w24_42 : ka (10000 + e) 0 = 42
  · refine lv_tableIn (tgt := 148) (off := 124) hx hb dX10_worth_24 (by rw [w24_42]; decide) (by rw [w24_42]; decide) (by rw [w24_42]; rfl) (by decide) ?_
    refine lv_iload_n hx hb dX10_worth_148 rfl (lv_at hl 1 rfl) ?_
    refine lv_iload_n hx hb dX10_worth_149 rfl (lv_at hl 0 rfl) ?_
    refine lv_imul hx hb dX10_worth_150 ?_
    refine r_iretp B hr hM dX10_worth_151 ?_
    intro st
    rw [ev_two hsn hx_ hy_]
    rw [w24_42, tw_42]
  by_cases w24_43 : ka (10000 + e) 0 = 43
  · refine lv_tableIn (tgt := 140) (off := 116) hx hb dX10_worth_24 (by rw [w24_43]; decide) (by rw [w24_43]; decide) (by rw [w24_43]; rfl) (by decide) ?_
    refine lv_iload_n hx hb dX10_worth_140 rfl (lv_at hl 1 rfl) ?_
    refine lv_iload_n hx hb dX10_worth_141 rfl (lv_at hl 0 rfl) ?_
    refine lv_iadd hx hb dX10_worth_142 ?_
    refine r_iretp B hr hM dX10_worth_143 ?_
    intro st
    rw [ev_two hsn hx_ hy_]
    rw [w24_43, tw_43]
  by_cases w24_44 : ka (10000 + e) 0 = 44
  · refine lv_tableIn (tgt := 205) (off := 181) hx hb dX10_worth_24 (by rw [w24_44]; decide) (by rw [w24_44]; decide) (by rw [w24_44]; rfl) (by decide) ?_
    refine lv_iload_n hx hb dX10_worth_205 rfl (lv_at hl 1 rfl) ?_
    refine lv_if_ne (tgt := 213) hx hb dX10_worth_206 (by decide) (fun c206 => ?_) (fun c206 => ?_)
    · refine lv_iconst (v := 1) hx hb dX10_worth_213 (by decide) ?_
      refine lv_goto (tgt := 218) hx hb dX10_worth_214 (by decide) ?_
      refine r_iretp B hr hM dX10_worth_218 ?_
      exact absurd (by rw [w24_44]; decide) hsn
    · refine lv_iload_n hx hb dX10_worth_209 rfl (lv_at hl 0 rfl) ?_
      refine lv_if_eq (tgt := 217) hx hb dX10_worth_210 (by decide) (fun c210 => ?_) (fun c210 => ?_)
      · refine lv_iconst (v := 0) hx hb dX10_worth_217 (by decide) ?_
        refine r_iretp B hr hM dX10_worth_218 ?_
        exact absurd (by rw [w24_44]; decide) hsn
      · refine lv_iconst (v := 1) hx hb dX10_worth_213 (by decide) ?_
        refine lv_goto (tgt := 218) hx hb dX10_worth_214 (by decide) ?_
        refine r_iretp B hr hM dX10_worth_218 ?_
        exact absurd (by rw [w24_44]; decide) hsn
  by_cases w24_45 : ka (10000 + e) 0 = 45
  · refine lv_tableIn (tgt := 144) (off := 120) hx hb dX10_worth_24 (by rw [w24_45]; decide) (by rw [w24_45]; decide) (by rw [w24_45]; rfl) (by decide) ?_
    refine lv_iload_n hx hb dX10_worth_144 rfl (lv_at hl 1 rfl) ?_
    refine lv_iload_n hx hb dX10_worth_145 rfl (lv_at hl 0 rfl) ?_
    refine lv_isub hx hb dX10_worth_146 ?_
    refine r_iretp B hr hM dX10_worth_147 ?_
    intro st
    rw [ev_two hsn hx_ hy_]
    rw [w24_45, tw_45]
  by_cases w24_46 : ka (10000 + e) 0 = 46
  · refine lv_tableIn (tgt := 205) (off := 181) hx hb dX10_worth_24 (by rw [w24_46]; decide) (by rw [w24_46]; decide) (by rw [w24_46]; rfl) (by decide) ?_
    refine lv_iload_n hx hb dX10_worth_205 rfl (lv_at hl 1 rfl) ?_
    refine lv_if_ne (tgt := 213) hx hb dX10_worth_206 (by decide) (fun c206 => ?_) (fun c206 => ?_)
    · refine lv_iconst (v := 1) hx hb dX10_worth_213 (by decide) ?_
      refine lv_goto (tgt := 218) hx hb dX10_worth_214 (by decide) ?_
      refine r_iretp B hr hM dX10_worth_218 ?_
      exact absurd (by rw [w24_46]; decide) hsn
    · refine lv_iload_n hx hb dX10_worth_209 rfl (lv_at hl 0 rfl) ?_
      refine lv_if_eq (tgt := 217) hx hb dX10_worth_210 (by decide) (fun c210 => ?_) (fun c210 => ?_)
      · refine lv_iconst (v := 0) hx hb dX10_worth_217 (by decide) ?_
        refine r_iretp B hr hM dX10_worth_218 ?_
        exact absurd (by rw [w24_46]; decide) hsn
      · refine lv_iconst (v := 1) hx hb dX10_worth_213 (by decide) ?_
        refine lv_goto (tgt := 218) hx hb dX10_worth_214 (by decide) ?_
        refine r_iretp B hr hM dX10_worth_218 ?_
        exact absurd (by rw [w24_46]; decide) hsn
  by_cases w24_47 : ka (10000 + e) 0 = 47
  · refine lv_tableIn (tgt := 152) (off := 128) hx hb dX10_worth_24 (by rw [w24_47]; decide) (by rw [w24_47]; decide) (by rw [w24_47]; rfl) (by decide) ?_
    refine lv_iload_n hx hb dX10_worth_152 rfl (lv_at hl 1 rfl) ?_
    refine lv_iload_n hx hb dX10_worth_153 rfl (lv_at hl 0 rfl) ?_
    refine k_pe (v := if y_ = 0 then 0 else x_ / y_) (r_S (As := [.int x_, .int y_]) (rest := []) B hM (ok_X10_over x_ y_) cal_X10_over q493 rfl hl.1 (Nat.le_of_ble_eq_true rfl) dX10_worth_154 ⟨by show 1 + 1 ≤ h + 2; omega, by show 19 + 2 + 64 * 1 ≤ 64 * (h + 2); omega⟩ ⟨Nat.le_of_ble_eq_true rfl, Nat.le_of_ble_eq_true rfl⟩) hM (fun H locs hM => ?_)
    refine r_iretp B hr hM dX10_worth_157 ?_
    intro st
    rw [ev_two hsn hx_ hy_]
    rw [w24_47, tw_47]
  by_cases w24_48 : ka (10000 + e) 0 = 48
  · refine lv_tableIn (tgt := 205) (off := 181) hx hb dX10_worth_24 (by rw [w24_48]; decide) (by rw [w24_48]; decide) (by rw [w24_48]; rfl) (by decide) ?_
    refine lv_iload_n hx hb dX10_worth_205 rfl (lv_at hl 1 rfl) ?_
    refine lv_if_ne (tgt := 213) hx hb dX10_worth_206 (by decide) (fun c206 => ?_) (fun c206 => ?_)
    · refine lv_iconst (v := 1) hx hb dX10_worth_213 (by decide) ?_
      refine lv_goto (tgt := 218) hx hb dX10_worth_214 (by decide) ?_
      refine r_iretp B hr hM dX10_worth_218 ?_
      exact absurd (by rw [w24_48]; decide) hsn
    · refine lv_iload_n hx hb dX10_worth_209 rfl (lv_at hl 0 rfl) ?_
      refine lv_if_eq (tgt := 217) hx hb dX10_worth_210 (by decide) (fun c210 => ?_) (fun c210 => ?_)
      · refine lv_iconst (v := 0) hx hb dX10_worth_217 (by decide) ?_
        refine r_iretp B hr hM dX10_worth_218 ?_
        exact absurd (by rw [w24_48]; decide) hsn
      · refine lv_iconst (v := 1) hx hb dX10_worth_213 (by decide) ?_
        refine lv_goto (tgt := 218) hx hb dX10_worth_214 (by decide) ?_
        refine r_iretp B hr hM dX10_worth_218 ?_
        exact absurd (by rw [w24_48]; decide) hsn
  by_cases w24_49 : ka (10000 + e) 0 = 49
  · refine lv_tableIn (tgt := 205) (off := 181) hx hb dX10_worth_24 (by rw [w24_49]; decide) (by rw [w24_49]; decide) (by rw [w24_49]; rfl) (by decide) ?_
    refine lv_iload_n hx hb dX10_worth_205 rfl (lv_at hl 1 rfl) ?_
    refine lv_if_ne (tgt := 213) hx hb dX10_worth_206 (by decide) (fun c206 => ?_) (fun c206 => ?_)
    · refine lv_iconst (v := 1) hx hb dX10_worth_213 (by decide) ?_
      refine lv_goto (tgt := 218) hx hb dX10_worth_214 (by decide) ?_
      refine r_iretp B hr hM dX10_worth_218 ?_
      exact absurd (by rw [w24_49]; decide) hsn
    · refine lv_iload_n hx hb dX10_worth_209 rfl (lv_at hl 0 rfl) ?_
      refine lv_if_eq (tgt := 217) hx hb dX10_worth_210 (by decide) (fun c210 => ?_) (fun c210 => ?_)
      · refine lv_iconst (v := 0) hx hb dX10_worth_217 (by decide) ?_
        refine r_iretp B hr hM dX10_worth_218 ?_
        exact absurd (by rw [w24_49]; decide) hsn
      · refine lv_iconst (v := 1) hx hb dX10_worth_213 (by decide) ?_
        refine lv_goto (tgt := 218) hx hb dX10_worth_214 (by decide) ?_
        refine r_iretp B hr hM dX10_worth_218 ?_
        exact absurd (by rw [w24_49]; decide) hsn
  by_cases w24_50 : ka (10000 + e) 0 = 50
  · refine lv_tableIn (tgt := 205) (off := 181) hx hb dX10_worth_24 (by rw [w24_50]; decide) (by rw [w24_50]; decide) (by rw [w24_50]; rfl) (by decide) ?_
    refine lv_iload_n hx hb dX10_worth_205 rfl (lv_at hl 1 rfl) ?_
    refine lv_if_ne (tgt := 213) hx hb dX10_worth_206 (by decide) (fun c206 => ?_) (fun c206 => ?_)
    · refine lv_iconst (v := 1) hx hb dX10_worth_213 (by decide) ?_
      refine lv_goto (tgt := 218) hx hb dX10_worth_214 (by decide) ?_
      refine r_iretp B hr hM dX10_worth_218 ?_
      exact absurd (by rw [w24_50]; decide) hsn
    · refine lv_iload_n hx hb dX10_worth_209 rfl (lv_at hl 0 rfl) ?_
      refine lv_if_eq (tgt := 217) hx hb dX10_worth_210 (by decide) (fun c210 => ?_) (fun c210 => ?_)
      · refine lv_iconst (v := 0) hx hb dX10_worth_217 (by decide) ?_
        refine r_iretp B hr hM dX10_worth_218 ?_
        exact absurd (by rw [w24_50]; decide) hsn
      · refine lv_iconst (v := 1) hx hb dX10_worth_213 (by decide) ?_
        refine lv_goto (tgt := 218) hx hb dX10_worth_214 (by decide) ?_
        refine r_iretp B hr hM dX10_worth_218 ?_
        exact absurd (by rw [w24_50]; decide) hsn
  by_cases w24_51 : ka (10000 + e) 0 = 51
  · refine lv_tableIn (tgt := 205) (off := 181) hx hb dX10_worth_24 (by rw [w24_51]; decide) (by rw [w24_51]; decide) (by rw [w24_51]; rfl) (by decide) ?_
    refine lv_iload_n hx hb dX10_worth_205 rfl (lv_at hl 1 rfl) ?_
    refine lv_if_ne (tgt := 213) hx hb dX10_worth_206 (by decide) (fun c206 => ?_) (fun c206 => ?_)
    · refine lv_iconst (v := 1) hx hb dX10_worth_213 (by decide) ?_
      refine lv_goto (tgt := 218) hx hb dX10_worth_214 (by decide) ?_
      refine r_iretp B hr hM dX10_worth_218 ?_
      exact absurd (by rw [w24_51]; decide) hsn
    · refine lv_iload_n hx hb dX10_worth_209 rfl (lv_at hl 0 rfl) ?_
      refine lv_if_eq (tgt := 217) hx hb dX10_worth_210 (by decide) (fun c210 => ?_) (fun c210 => ?_)
      · refine lv_iconst (v := 0) hx hb dX10_worth_217 (by decide) ?_
        refine r_iretp B hr hM dX10_worth_218 ?_
        exact absurd (by rw [w24_51]; decide) hsn
      · refine lv_iconst (v := 1) hx hb dX10_worth_213 (by decide) ?_
        refine lv_goto (tgt := 218) hx hb dX10_worth_214 (by decide) ?_
        refine r_iretp B hr hM dX10_worth_218 ?_
        exact absurd (by rw [w24_51]; decide) hsn
  by_cases w24_52 : ka (10000 + e) 0 = 52
  · refine lv_tableIn (tgt := 205) (off := 181) hx hb dX10_worth_24 (by rw [w24_52]; decide) (by rw [w24_52]; decide) (by rw [w24_52]; rfl) (by decide) ?_
    refine lv_iload_n hx hb dX10_worth_205 rfl (lv_at hl 1 rfl) ?_
    refine lv_if_ne (tgt := 213) hx hb dX10_worth_206 (by decide) (fun c206 => ?_) (fun c206 => ?_)
    · refine lv_iconst (v := 1) hx hb dX10_worth_213 (by decide) ?_
      refine lv_goto (tgt := 218) hx hb dX10_worth_214 (by decide) ?_
      refine r_iretp B hr hM dX10_worth_218 ?_
      exact absurd (by rw [w24_52]; decide) hsn
    · refine lv_iload_n hx hb dX10_worth_209 rfl (lv_at hl 0 rfl) ?_
      refine lv_if_eq (tgt := 217) hx hb dX10_worth_210 (by decide) (fun c210 => ?_) (fun c210 => ?_)
      · refine lv_iconst (v := 0) hx hb dX10_worth_217 (by decide) ?_
        refine r_iretp B hr hM dX10_worth_218 ?_
        exact absurd (by rw [w24_52]; decide) hsn
      · refine lv_iconst (v := 1) hx hb dX10_worth_213 (by decide) ?_
        refine lv_goto (tgt := 218) hx hb dX10_worth_214 (by decide) ?_
        refine r_iretp B hr hM dX10_worth_218 ?_
        exact absurd (by rw [w24_52]; decide) hsn
  by_cases w24_53 : ka (10000 + e) 0 = 53
  · refine lv_tableIn (tgt := 205) (off := 181) hx hb dX10_worth_24 (by rw [w24_53]; decide) (by rw [w24_53]; decide) (by rw [w24_53]; rfl) (by decide) ?_
    refine lv_iload_n hx hb dX10_worth_205 rfl (lv_at hl 1 rfl) ?_
    refine lv_if_ne (tgt := 213) hx hb dX10_worth_206 (by decide) (fun c206 => ?_) (fun c206 => ?_)
    · refine lv_iconst (v := 1) hx hb dX10_worth_213 (by decide) ?_
      refine lv_goto (tgt := 218) hx hb dX10_worth_214 (by decide) ?_
      refine r_iretp B hr hM dX10_worth_218 ?_
      exact absurd (by rw [w24_53]; decide) hsn
    · refine lv_iload_n hx hb dX10_worth_209 rfl (lv_at hl 0 rfl) ?_
      refine lv_if_eq (tgt := 217) hx hb dX10_worth_210 (by decide) (fun c210 => ?_) (fun c210 => ?_)
      · refine lv_iconst (v := 0) hx hb dX10_worth_217 (by decide) ?_
        refine r_iretp B hr hM dX10_worth_218 ?_
        exact absurd (by rw [w24_53]; decide) hsn
      · refine lv_iconst (v := 1) hx hb dX10_worth_213 (by decide) ?_
        refine lv_goto (tgt := 218) hx hb dX10_worth_214 (by decide) ?_
        refine r_iretp B hr hM dX10_worth_218 ?_
        exact absurd (by rw [w24_53]; decide) hsn
  by_cases w24_54 : ka (10000 + e) 0 = 54
  · refine lv_tableIn (tgt := 205) (off := 181) hx hb dX10_worth_24 (by rw [w24_54]; decide) (by rw [w24_54]; decide) (by rw [w24_54]; rfl) (by decide) ?_
    refine lv_iload_n hx hb dX10_worth_205 rfl (lv_at hl 1 rfl) ?_
    refine lv_if_ne (tgt := 213) hx hb dX10_worth_206 (by decide) (fun c206 => ?_) (fun c206 => ?_)
    · refine lv_iconst (v := 1) hx hb dX10_worth_213 (by decide) ?_
      refine lv_goto (tgt := 218) hx hb dX10_worth_214 (by decide) ?_
      refine r_iretp B hr hM dX10_worth_218 ?_
      exact absurd (by rw [w24_54]; decide) hsn
    · refine lv_iload_n hx hb dX10_worth_209 rfl (lv_at hl 0 rfl) ?_
      refine lv_if_eq (tgt := 217) hx hb dX10_worth_210 (by decide) (fun c210 => ?_) (fun c210 => ?_)
      · refine lv_iconst (v := 0) hx hb dX10_worth_217 (by decide) ?_
        refine r_iretp B hr hM dX10_worth_218 ?_
        exact absurd (by rw [w24_54]; decide) hsn
      · refine lv_iconst (v := 1) hx hb dX10_worth_213 (by decide) ?_
        refine lv_goto (tgt := 218) hx hb dX10_worth_214 (by decide) ?_
        refine r_iretp B hr hM dX10_worth_218 ?_
        exact absurd (by rw [w24_54]; decide) hsn
  by_cases w24_55 : ka (10000 + e) 0 = 55
  · refine lv_tableIn (tgt := 205) (off := 181) hx hb dX10_worth_24 (by rw [w24_55]; decide) (by rw [w24_55]; decide) (by rw [w24_55]; rfl) (by decide) ?_
    refine lv_iload_n hx hb dX10_worth_205 rfl (lv_at hl 1 rfl) ?_
    refine lv_if_ne (tgt := 213) hx hb dX10_worth_206 (by decide) (fun c206 => ?_) (fun c206 => ?_)
    · refine lv_iconst (v := 1) hx hb dX10_worth_213 (by decide) ?_
      refine lv_goto (tgt := 218) hx hb dX10_worth_214 (by decide) ?_
      refine r_iretp B hr hM dX10_worth_218 ?_
      exact absurd (by rw [w24_55]; decide) hsn
    · refine lv_iload_n hx hb dX10_worth_209 rfl (lv_at hl 0 rfl) ?_
      refine lv_if_eq (tgt := 217) hx hb dX10_worth_210 (by decide) (fun c210 => ?_) (fun c210 => ?_)
      · refine lv_iconst (v := 0) hx hb dX10_worth_217 (by decide) ?_
        refine r_iretp B hr hM dX10_worth_218 ?_
        exact absurd (by rw [w24_55]; decide) hsn
      · refine lv_iconst (v := 1) hx hb dX10_worth_213 (by decide) ?_
        refine lv_goto (tgt := 218) hx hb dX10_worth_214 (by decide) ?_
        refine r_iretp B hr hM dX10_worth_218 ?_
        exact absurd (by rw [w24_55]; decide) hsn
  by_cases w24_56 : ka (10000 + e) 0 = 56
  · refine lv_tableIn (tgt := 205) (off := 181) hx hb dX10_worth_24 (by rw [w24_56]; decide) (by rw [w24_56]; decide) (by rw [w24_56]; rfl) (by decide) ?_
    refine lv_iload_n hx hb dX10_worth_205 rfl (lv_at hl 1 rfl) ?_
    refine lv_if_ne (tgt := 213) hx hb dX10_worth_206 (by decide) (fun c206 => ?_) (fun c206 => ?_)
    · refine lv_iconst (v := 1) hx hb dX10_worth_213 (by decide) ?_
      refine lv_goto (tgt := 218) hx hb dX10_worth_214 (by decide) ?_
      refine r_iretp B hr hM dX10_worth_218 ?_
      exact absurd (by rw [w24_56]; decide) hsn
    · refine lv_iload_n hx hb dX10_worth_209 rfl (lv_at hl 0 rfl) ?_
      refine lv_if_eq (tgt := 217) hx hb dX10_worth_210 (by decide) (fun c210 => ?_) (fun c210 => ?_)
      · refine lv_iconst (v := 0) hx hb dX10_worth_217 (by decide) ?_
        refine r_iretp B hr hM dX10_worth_218 ?_
        exact absurd (by rw [w24_56]; decide) hsn
      · refine lv_iconst (v := 1) hx hb dX10_worth_213 (by decide) ?_
        refine lv_goto (tgt := 218) hx hb dX10_worth_214 (by decide) ?_
        refine r_iretp B hr hM dX10_worth_218 ?_
        exact absurd (by rw [w24_56]; decide) hsn
  by_cases w24_57 : ka (10000 + e) 0 = 57
  · refine lv_tableIn (tgt := 205) (off := 181) hx hb dX10_worth_24 (by rw [w24_57]; decide) (by rw [w24_57]; decide) (by rw [w24_57]; rfl) (by decide) ?_
    refine lv_iload_n hx hb dX10_worth_205 rfl (lv_at hl 1 rfl) ?_
    refine lv_if_ne (tgt := 213) hx hb dX10_worth_206 (by decide) (fun c206 => ?_) (fun c206 => ?_)
    · refine lv_iconst (v := 1) hx hb dX10_worth_213 (by decide) ?_
      refine lv_goto (tgt := 218) hx hb dX10_worth_214 (by decide) ?_
      refine r_iretp B hr hM dX10_worth_218 ?_
      exact absurd (by rw [w24_57]; decide) hsn
    · refine lv_iload_n hx hb dX10_worth_209 rfl (lv_at hl 0 rfl) ?_
      refine lv_if_eq (tgt := 217) hx hb dX10_worth_210 (by decide) (fun c210 => ?_) (fun c210 => ?_)
      · refine lv_iconst (v := 0) hx hb dX10_worth_217 (by decide) ?_
        refine r_iretp B hr hM dX10_worth_218 ?_
        exact absurd (by rw [w24_57]; decide) hsn
      · refine lv_iconst (v := 1) hx hb dX10_worth_213 (by decide) ?_
        refine lv_goto (tgt := 218) hx hb dX10_worth_214 (by decide) ?_
        refine r_iretp B hr hM dX10_worth_218 ?_
        exact absurd (by rw [w24_57]; decide) hsn
  by_cases w24_58 : ka (10000 + e) 0 = 58
  · refine lv_tableIn (tgt := 205) (off := 181) hx hb dX10_worth_24 (by rw [w24_58]; decide) (by rw [w24_58]; decide) (by rw [w24_58]; rfl) (by decide) ?_
    refine lv_iload_n hx hb dX10_worth_205 rfl (lv_at hl 1 rfl) ?_
    refine lv_if_ne (tgt := 213) hx hb dX10_worth_206 (by decide) (fun c206 => ?_) (fun c206 => ?_)
    · refine lv_iconst (v := 1) hx hb dX10_worth_213 (by decide) ?_
      refine lv_goto (tgt := 218) hx hb dX10_worth_214 (by decide) ?_
      refine r_iretp B hr hM dX10_worth_218 ?_
      exact absurd (by rw [w24_58]; decide) hsn
    · refine lv_iload_n hx hb dX10_worth_209 rfl (lv_at hl 0 rfl) ?_
      refine lv_if_eq (tgt := 217) hx hb dX10_worth_210 (by decide) (fun c210 => ?_) (fun c210 => ?_)
      · refine lv_iconst (v := 0) hx hb dX10_worth_217 (by decide) ?_
        refine r_iretp B hr hM dX10_worth_218 ?_
        exact absurd (by rw [w24_58]; decide) hsn
      · refine lv_iconst (v := 1) hx hb dX10_worth_213 (by decide) ?_
        refine lv_goto (tgt := 218) hx hb dX10_worth_214 (by decide) ?_
        refine r_iretp B hr hM dX10_worth_218 ?_
        exact absurd (by rw [w24_58]; decide) hsn
  by_cases w24_59 : ka (10000 + e) 0 = 59
  · refine lv_tableIn (tgt := 205) (off := 181) hx hb dX10_worth_24 (by rw [w24_59]; decide) (by rw [w24_59]; decide) (by rw [w24_59]; rfl) (by decide) ?_
    refine lv_iload_n hx hb dX10_worth_205 rfl (lv_at hl 1 rfl) ?_
    refine lv_if_ne (tgt := 213) hx hb dX10_worth_206 (by decide) (fun c206 => ?_) (fun c206 => ?_)
    · refine lv_iconst (v := 1) hx hb dX10_worth_213 (by decide) ?_
      refine lv_goto (tgt := 218) hx hb dX10_worth_214 (by decide) ?_
      refine r_iretp B hr hM dX10_worth_218 ?_
      exact absurd (by rw [w24_59]; decide) hsn
    · refine lv_iload_n hx hb dX10_worth_209 rfl (lv_at hl 0 rfl) ?_
      refine lv_if_eq (tgt := 217) hx hb dX10_worth_210 (by decide) (fun c210 => ?_) (fun c210 => ?_)
      · refine lv_iconst (v := 0) hx hb dX10_worth_217 (by decide) ?_
        refine r_iretp B hr hM dX10_worth_218 ?_
        exact absurd (by rw [w24_59]; decide) hsn
      · refine lv_iconst (v := 1) hx hb dX10_worth_213 (by decide) ?_
        refine lv_goto (tgt := 218) hx hb dX10_worth_214 (by decide) ?_
        refine r_iretp B hr hM dX10_worth_218 ?_
        exact absurd (by rw [w24_59]; decide) hsn
  by_cases w24_60 : ka (10000 + e) 0 = 60
  · refine lv_tableIn (tgt := 158) (off := 134) hx hb dX10_worth_24 (by rw [w24_60]; decide) (by rw [w24_60]; decide) (by rw [w24_60]; rfl) (by decide) ?_
    refine lv_iload_n hx hb dX10_worth_158 rfl (lv_at hl 1 rfl) ?_
    refine lv_iload_n hx hb dX10_worth_159 rfl (lv_at hl 0 rfl) ?_
    refine lv_icmp_ge (tgt := 167) hx hb dX10_worth_160 (by decide) (fun c160 => ?_) (fun c160 => ?_)
    · refine lv_iconst (v := 0) hx hb dX10_worth_167 (by decide) ?_
      refine r_iretp B hr hM dX10_worth_168 ?_
      intro st
      rw [ev_two hsn hx_ hy_]
      rw [w24_60, tw_60]
      grind
    · refine lv_iconst (v := 1) hx hb dX10_worth_163 (by decide) ?_
      refine lv_goto (tgt := 168) hx hb dX10_worth_164 (by decide) ?_
      refine r_iretp B hr hM dX10_worth_168 ?_
      intro st
      rw [ev_two hsn hx_ hy_]
      rw [w24_60, tw_60]
      grind
  by_cases w24_61 : ka (10000 + e) 0 = 61
  · refine lv_tableIn (tgt := 169) (off := 145) hx hb dX10_worth_24 (by rw [w24_61]; decide) (by rw [w24_61]; decide) (by rw [w24_61]; rfl) (by decide) ?_
    refine lv_iload_n hx hb dX10_worth_169 rfl (lv_at hl 1 rfl) ?_
    refine lv_iload_n hx hb dX10_worth_170 rfl (lv_at hl 0 rfl) ?_
    refine lv_icmp_ne (tgt := 178) hx hb dX10_worth_171 (by decide) (fun c171 => ?_) (fun c171 => ?_)
    · refine lv_iconst (v := 0) hx hb dX10_worth_178 (by decide) ?_
      refine r_iretp B hr hM dX10_worth_179 ?_
      intro st
      rw [ev_two hsn hx_ hy_]
      rw [w24_61, tw_61]
      grind
    · refine lv_iconst (v := 1) hx hb dX10_worth_174 (by decide) ?_
      refine lv_goto (tgt := 179) hx hb dX10_worth_175 (by decide) ?_
      refine r_iretp B hr hM dX10_worth_179 ?_
      intro st
      rw [ev_two hsn hx_ hy_]
      rw [w24_61, tw_61]
      grind
  by_cases w24_62 : ka (10000 + e) 0 = 62
  · refine lv_tableIn (tgt := 180) (off := 156) hx hb dX10_worth_24 (by rw [w24_62]; decide) (by rw [w24_62]; decide) (by rw [w24_62]; rfl) (by decide) ?_
    refine lv_iload_n hx hb dX10_worth_180 rfl (lv_at hl 1 rfl) ?_
    refine lv_iload_n hx hb dX10_worth_181 rfl (lv_at hl 0 rfl) ?_
    refine lv_icmp_le (tgt := 189) hx hb dX10_worth_182 (by decide) (fun c182 => ?_) (fun c182 => ?_)
    · refine lv_iconst (v := 0) hx hb dX10_worth_189 (by decide) ?_
      refine r_iretp B hr hM dX10_worth_190 ?_
      intro st
      rw [ev_two hsn hx_ hy_]
      rw [w24_62, tw_62]
      grind
    · refine lv_iconst (v := 1) hx hb dX10_worth_185 (by decide) ?_
      refine lv_goto (tgt := 190) hx hb dX10_worth_186 (by decide) ?_
      refine r_iretp B hr hM dX10_worth_190 ?_
      intro st
      rw [ev_two hsn hx_ hy_]
      rw [w24_62, tw_62]
      grind
  have tw24_38 : Int32.toInt (ka (10000 + e) 0) ≠ 38 := fun z => w24_38 (Int32.toInt_inj.mp (z.trans (by decide)))
  have tw24_39 : Int32.toInt (ka (10000 + e) 0) ≠ 39 := fun z => w24_39 (Int32.toInt_inj.mp (z.trans (by decide)))
  have tw24_40 : Int32.toInt (ka (10000 + e) 0) ≠ 40 := fun z => w24_40 (Int32.toInt_inj.mp (z.trans (by decide)))
  have tw24_41 : Int32.toInt (ka (10000 + e) 0) ≠ 41 := fun z => w24_41 (Int32.toInt_inj.mp (z.trans (by decide)))
  have tw24_42 : Int32.toInt (ka (10000 + e) 0) ≠ 42 := fun z => w24_42 (Int32.toInt_inj.mp (z.trans (by decide)))
  have tw24_43 : Int32.toInt (ka (10000 + e) 0) ≠ 43 := fun z => w24_43 (Int32.toInt_inj.mp (z.trans (by decide)))
  have tw24_44 : Int32.toInt (ka (10000 + e) 0) ≠ 44 := fun z => w24_44 (Int32.toInt_inj.mp (z.trans (by decide)))
  have tw24_45 : Int32.toInt (ka (10000 + e) 0) ≠ 45 := fun z => w24_45 (Int32.toInt_inj.mp (z.trans (by decide)))
  have tw24_46 : Int32.toInt (ka (10000 + e) 0) ≠ 46 := fun z => w24_46 (Int32.toInt_inj.mp (z.trans (by decide)))
  have tw24_47 : Int32.toInt (ka (10000 + e) 0) ≠ 47 := fun z => w24_47 (Int32.toInt_inj.mp (z.trans (by decide)))
  have tw24_48 : Int32.toInt (ka (10000 + e) 0) ≠ 48 := fun z => w24_48 (Int32.toInt_inj.mp (z.trans (by decide)))
  have tw24_49 : Int32.toInt (ka (10000 + e) 0) ≠ 49 := fun z => w24_49 (Int32.toInt_inj.mp (z.trans (by decide)))
  have tw24_50 : Int32.toInt (ka (10000 + e) 0) ≠ 50 := fun z => w24_50 (Int32.toInt_inj.mp (z.trans (by decide)))
  have tw24_51 : Int32.toInt (ka (10000 + e) 0) ≠ 51 := fun z => w24_51 (Int32.toInt_inj.mp (z.trans (by decide)))
  have tw24_52 : Int32.toInt (ka (10000 + e) 0) ≠ 52 := fun z => w24_52 (Int32.toInt_inj.mp (z.trans (by decide)))
  have tw24_53 : Int32.toInt (ka (10000 + e) 0) ≠ 53 := fun z => w24_53 (Int32.toInt_inj.mp (z.trans (by decide)))
  have tw24_54 : Int32.toInt (ka (10000 + e) 0) ≠ 54 := fun z => w24_54 (Int32.toInt_inj.mp (z.trans (by decide)))
  have tw24_55 : Int32.toInt (ka (10000 + e) 0) ≠ 55 := fun z => w24_55 (Int32.toInt_inj.mp (z.trans (by decide)))
  have tw24_56 : Int32.toInt (ka (10000 + e) 0) ≠ 56 := fun z => w24_56 (Int32.toInt_inj.mp (z.trans (by decide)))
  have tw24_57 : Int32.toInt (ka (10000 + e) 0) ≠ 57 := fun z => w24_57 (Int32.toInt_inj.mp (z.trans (by decide)))
  have tw24_58 : Int32.toInt (ka (10000 + e) 0) ≠ 58 := fun z => w24_58 (Int32.toInt_inj.mp (z.trans (by decide)))
  have tw24_59 : Int32.toInt (ka (10000 + e) 0) ≠ 59 := fun z => w24_59 (Int32.toInt_inj.mp (z.trans (by decide)))
  have tw24_60 : Int32.toInt (ka (10000 + e) 0) ≠ 60 := fun z => w24_60 (Int32.toInt_inj.mp (z.trans (by decide)))
  have tw24_61 : Int32.toInt (ka (10000 + e) 0) ≠ 61 := fun z => w24_61 (Int32.toInt_inj.mp (z.trans (by decide)))
  have tw24_62 : Int32.toInt (ka (10000 + e) 0) ≠ 62 := fun z => w24_62 (Int32.toInt_inj.mp (z.trans (by decide)))
  refine lv_tableOut (tgt := 205) hx hb dX10_worth_24 (by omega) (by decide) ?_
  refine lv_iload_n hx hb dX10_worth_205 rfl (lv_at hl 1 rfl) ?_
  refine lv_if_ne (tgt := 213) hx hb dX10_worth_206 (by decide) (fun c206 => ?_) (fun c206 => ?_)
  · refine lv_iconst (v := 1) hx hb dX10_worth_213 (by decide) ?_
    refine lv_goto (tgt := 218) hx hb dX10_worth_214 (by decide) ?_
    refine r_iretp B hr hM dX10_worth_218 ?_
    intro st
    rw [ev_two hsn hx_ hy_]
    have h124 : ka (10000 + e) 0 = 124 := by
      unfold sgnV at hsn
      grind
    rw [h124, tw_124]
    grind
  · refine lv_iload_n hx hb dX10_worth_209 rfl (lv_at hl 0 rfl) ?_
    refine lv_if_eq (tgt := 217) hx hb dX10_worth_210 (by decide) (fun c210 => ?_) (fun c210 => ?_)
    · refine lv_iconst (v := 0) hx hb dX10_worth_217 (by decide) ?_
      refine r_iretp B hr hM dX10_worth_218 ?_
      intro st
      rw [ev_two hsn hx_ hy_]
      have h124 : ka (10000 + e) 0 = 124 := by
        unfold sgnV at hsn
        grind
      rw [h124, tw_124]
      grind
    · refine lv_iconst (v := 1) hx hb dX10_worth_213 (by decide) ?_
      refine lv_goto (tgt := 218) hx hb dX10_worth_214 (by decide) ?_
      refine r_iretp B hr hM dX10_worth_218 ?_
      intro st
      rw [ev_two hsn hx_ hy_]
      have h124 : ka (10000 + e) 0 = 124 := by
        unfold sgnV at hsn
        grind
      rw [h124, tw_124]
      grind
/-- what a tree is worth: what its code works out -/
theorem worth_ok (hO : LayO th rh A) {f : Nat → Int32} {key : Nat} (hnm : ∀ k : Nat, k < 128 → 0 ≤ nameT (nI key) (nI k) → ka 6 k = f (cl (nameT (nI key) (nI k)))) : ∀ (h : Nat) (C : List Int32) (e : Nat), TrAt th rh ka A.x (nI key) h C e → FaceAt l G yWorth e [] (some .int) 0 (h + 1) 0 0 th rh ph ka (Qp G th rh ph ka (fun r => ∀ st, evC f C st = r :: st))
  | 0, _, _, q => absurd q id
  | h + 1, C, e, q => by
    rcases q with ⟨v, q1, q2, q3, q4, q5⟩ | ⟨k, hk, q1, q2, q3, q4, q5⟩ | ⟨D, d, q1, q2, q3, q4⟩ | ⟨D, E, c, d, s, q1, q2, q3, q4, q5, q6, q7, q8⟩
    · refine ⟨yX12_worth, cX12_worth, 1, _, _, _, q1, rfl, calF_worth_12, by decide, ((ok_X12_worth q1).more (by omega)).qp (fun r hr st => ?_)⟩
      rw [hr, q2, q3]
      exact stepC_lit (i_nlt.mpr q4) q5
    · refine ⟨yX13_worth, cX13_worth, 1, _, _, _, q1, rfl, calF_worth_13, by decide, ((ok_X13_worth hO q1 q3 hk q2).more (by omega)).qp (fun r hr st => ?_)⟩
      obtain ⟨n, hn, en⟩ := nI_of (i_nlt.mpr q4)
      have hb : n < 3 := by
        have h1 : nameT (nI key) (nI k) ≤ 2 := by unfold nameT; grind
        rw [en] at h1
        have := (nI_leI (a := n) (b := 2) hn (by decide)).mp h1
        omega
      rw [hr, hnm k hk q4, q5]
      have e2 : (10000 : Int32) + nameT (nI key) (nI k) = nI (10000 + n) := by rw [en, nA]; rfl
      rw [e2]
      show stepC f st (nI (10000 + n)) = _
      have h3 : nI (10000 + n) - 10000 = nI n := by
        have := pk_sub (a := 10000 + n) (b := 10000) (by omega)
        rw [show 10000 + n - 10000 = n by omega] at this
        exact this
      rw [stepC_name (nI_pos (by omega)) (fun z => absurd ((nI_ltI (a := 10000 + n) (b := 10000) (by omega) (by decide)).mp z) (by omega)) h3 (by omega), en, cl_nI hn]
    · subst q3
      exact ⟨yX14_worth, cX14_worth, 1, _, _, _, q1, rfl, calF_worth_14, by decide, ok_X14_worth q1 q2 (worth_ok hO hnm h D d q4)⟩
    · subst q5 q2
      exact ⟨yX10_worth, cX10_worth, 3, _, _, _, q1, rfl, calF_worth_10, by decide, ok_X10_worth q1 q3 q4 q6 (worth_ok hO hnm h D c q7) (worth_ok hO hnm h E d q8)⟩
end
