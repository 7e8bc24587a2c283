/-! the component: cellars anew -/
set_option maxRecDepth 100000
section
variable {l : Launch} {G : GG} {th : Th} {rh : Rh} {ph : Ph} {ka : Ka} {A : XA} {x c w P Q kd b : Nat}
theorem IniC.up {x b : Nat} {w0 : Option Nat} {th th' : Th} {rh rh' : Rh} {ph ph' : Ph} {ka ka' : Ka} (h : IniC x b th (up2 rh (10000 + b) 3 w0) ph ka th' rh' ph' ka') : IniC x b th rh ph ka th' rh' ph' ka' := by
  obtain ⟨w, h1, h2, h3, h4, h5⟩ := h
  exact ⟨w, h1, h2, h3, fun q g1 g2 => ⟨(h4 q g1 g2).1.trans (by rw [up2_a _ _ _ g1]), (h4 q g1 g2).2⟩, h5⟩
/-- the object, then its wines -/
theorem IniC.new {x b kd : Nat} {th th' : Th} {rh rh' : Rh} {ph ph' : Ph} {ka ka' : Ka} (hn : th b = none) (h : IniC x b (va_up th b (some (10000 + b, .inl (4 + kd)))) (up1 rh (10000 + b) (fun _ => none)) ph (up1 ka (10000 + b) (fun _ => 0)) th' rh' ph' ka') : ∃ w, NewC x b w kd th rh ph ka th' rh' ph' ka' := by
  obtain ⟨w, h1, h2, h3, h4, h5, h6, h7, h8⟩ := h
  have hbw : b ≠ w := fun z => by rw [z, va_up_self] at h1; cases h1
  rw [va_up_ne _ _ (Ne.symm hbw)] at h1
  refine ⟨w, hn, h1, hbw, h3, fun q g1 g2 => ?_, h5, h6, by rw [h7, up1_s], h8⟩
  obtain ⟨a1, a2, a3⟩ := h4 q g1 g2
  exact ⟨a1.trans (up1_a _ _ g1), a2, a3.trans (up1_a _ _ g1)⟩
theorem NewC.lay {x b w kd : Nat} {th th' : Th} {rh rh' : Rh} {ph ph' : Ph} {ka ka' : Ka} (h : NewC x b w kd th rh ph ka th' rh' ph' ka') (hk : kd ≤ 5) : LayC th' rh' x b w (10000 + b) (10000 + w) kd := by
  obtain ⟨h1, h2, h3, h4, h5, h6, h7, -⟩ := h
  exact ⟨by rw [h4, va_up_ne _ _ h3, va_up_self], h6, h7, by rw [h4, va_up_self], hk⟩
theorem NewC.old {x b w kd : Nat} {th th' : Th} {rh rh' : Rh} {ph ph' : Ph} {ka ka' : Ka} (h : NewC x b w kd th rh ph ka th' rh' ph' ka') {a : Nat} {v : Nat × Sh} (ha : th a = some v) : th' a = some v := by
  obtain ⟨h1, h2, h3, h4, -⟩ := h
  rw [h4, va_up_ne _ _ (fun z => by rw [z, h2] at ha; cases ha), va_up_ne _ _ (fun z => by rw [z, h1] at ha; cases ha)]
  exact ha
set_option maxHeartbeats 4000000 in
theorem ok_X4_init (hbT : th b = some (10000 + b, .inl (4 + kd))) (hkd : kd ≤ 5) : Met l yX4_init (ws_ yX4_init cX4_init 2 none) (RM 1 1 3) (Pc_ G [.ref b, .ref x] th rh ph ka) (QGv G (IniC x b th rh ph ka)) 1 3 (frG G) := by
  refine m_of (by decide) (Nat.le_of_ble_eq_true rfl) ?_
  intro p_ e_ s_ m_ below_ meth_ c_ B hr hnm ls hl hM
  have hx := B.1
  have hb := B.2.1
  have hM := hM
  obtain ⟨rc, hr_, hrN, hr0, hr1, hr2, hr3, hg0, hg1, hg2, hg3, hrC⟩ := gC4 hkd
  refine lv_aload_n hx hb dX4_init_0 rfl (lv_at hl 0 rfl) ?_
  refine lv_aload_n hx hb dX4_init_1 rfl (lv_at hl 1 rfl) ?_
  refine r_putFq (ty := .object "LevelCellars") B hM hnm 3 hbT hr_ (by rw [hrN]; decide) hr3 hg3 q295 (by decide +kernel) rfl rfl dX4_init_2 (fun rh_1 H locs erh_1 hM => ?_)
  refine lv_aload_n hx hb dX4_init_5 rfl (lv_at hl 0 rfl) ?_
  refine W.objInit hx hb B.2.2.2.1 (B.ts _ q286) (B.ts _ q110) (B.ts _ q111) rfl (hl.1.trans B.2.2.1.symm) rfl dX4_init_6 (Nat.le_of_ble_eq_true rfl) (Nat.le_of_ble_eq_true rfl) ?_
  refine lv_aload_n hx hb dX4_init_9 rfl (lv_at hl 0 rfl) ?_
  refine lv_iconst (v := 3) hx hb dX4_init_10 (by decide) ?_
  refine r_newa (t := 0) (atype := .int) B hM 3 rfl (by decide) rfl (fun _ => rfl) (by decide) rfl q178 (Nat.le_of_ble_eq_true rfl) (Nat.le_of_ble_eq_true rfl) dX4_init_11 (fun w H hnw hfw hM => ?_)
  have hbw : b ≠ w := fun z => by rw [z, hnw] at hbT; cases hbT
  have hb1 : va_up th w (some (10000 + w, .inr (0, 3))) b = some (10000 + b, .inl (4 + kd)) := by rw [va_up_ne _ _ hbw]; exact hbT
  refine r_putFq (ty := .array .int) B hM hnm 2 hb1 hr_ (by rw [hrN]; decide) hr2 hg2 q292 (by decide +kernel) rfl rfl dX4_init_13 (fun rh_2 H locs erh_2 hM => ?_)
  refine r_vretG B hr hM dX4_init_16 ?_
  refine ⟨w, hnw, fun s' z => z.elim (fun c q => hfw c s' q), rfl, fun q h1 h2 => ⟨?_, up1_a _ _ h2, up1_a _ _ h2⟩, ?_, ?_, ?_, up1_s _ _ _⟩
  · rw [erh_2, up2_a _ _ _ h1, up1_a _ _ h2, erh_1, up2_a _ _ _ h1]
  · rw [erh_2, up2_s]
  · rw [erh_2, up2_i _ _ _ _ (by decide), up1_a _ _ (by omega), erh_1, up2_s]
  · exact up1_a _ _ (by omega)
theorem ok_X5_init {n : Nat} {rc : vw_C} (hbT : th b = some (10000 + b, .inl (4 + kd))) (hkd : kd ≤ 5) (hc : gCl[4 + kd]? = some rc) (hins : Cond.instantiable rc.1 n ∈ lw_all) (hlay : Cond.laysFinal rc.1 "LevelCellars$Deep" "this$0" "LLevelCellars;" ∈ lw_all) : Met l yX5_init (ws_ yX5_init cX5_init 2 none) (RM 2 1 3) (Pc2 G b n [.ref b, .ref x] th rh ph ka) (QGv G (IniC x b th rh ph ka)) 1 3 (frG G) := by
  refine m_of2 (by decide) (Nat.le_of_ble_eq_true rfl) ?_
  intro p_ e_ s_ m_ below_ meth_ c_ B hr hnm ls hl hM hz
  have hx := B.1
  have hb := B.2.1
  refine lv_aload_n hx hb dX5_init_0 rfl (lv_at hl 0 rfl) ?_
  refine lv_aload_n hx hb dX5_init_1 rfl (lv_at hl 1 rfl) ?_
  refine r_putX B hM hnm hbT hkd hc hz hins hlay q311 dX5_init_2 (fun w0 rh1 H locs e1 hz hM => ?_)
  refine lv_aload_n hx hb dX5_init_5 rfl (lv_at hl 0 rfl) ?_
  refine lv_aload_n hx hb dX5_init_6 rfl (lv_at hl 1 rfl) ?_
  refine k_vG (r_IN (As := [.ref x]) (rest := []) B hM (ok_X4_init hbT hkd) cal_X4_init q310 rfl hl.1 (Nat.le_of_ble_eq_true rfl) dX5_init_7 ⟨Nat.le_of_ble_eq_true rfl, Nat.le_of_ble_eq_true rfl⟩ ⟨Nat.le_of_ble_eq_true rfl, Nat.le_of_ble_eq_true rfl⟩) hM (fun th2 rh2 ph2 ka2 H locs hI hM => ?_)
  refine r_vretG B hr hM dX5_init_10 ?_
  subst e1
  exact hI.up
theorem ok_X6_init {n : Nat} {rc : vw_C} (hbT : th b = some (10000 + b, .inl (4 + kd))) (hkd : kd ≤ 5) (hc : gCl[4 + kd]? = some rc) (hins : Cond.instantiable rc.1 n ∈ lw_all) (hlay : Cond.laysFinal rc.1 "LevelCellars$Leaky" "this$0" "LLevelCellars;" ∈ lw_all) : Met l yX6_init (ws_ yX6_init cX6_init 2 none) (RM 2 1 3) (Pc2 G b n [.ref b, .ref x] th rh ph ka) (QGv G (IniC x b th rh ph ka)) 1 3 (frG G) := by
  refine m_of2 (by decide) (Nat.le_of_ble_eq_true rfl) ?_
  intro p_ e_ s_ m_ below_ meth_ c_ B hr hnm ls hl hM hz
  have hx := B.1
  have hb := B.2.1
  refine lv_aload_n hx hb dX6_init_0 rfl (lv_at hl 0 rfl) ?_
  refine lv_aload_n hx hb dX6_init_1 rfl (lv_at hl 1 rfl) ?_
  refine r_putX B hM hnm hbT hkd hc hz hins hlay q325 dX6_init_2 (fun w0 rh1 H locs e1 hz hM => ?_)
  refine lv_aload_n hx hb dX6_init_5 rfl (lv_at hl 0 rfl) ?_
  refine lv_aload_n hx hb dX6_init_6 rfl (lv_at hl 1 rfl) ?_
  refine k_vG (r_IN (As := [.ref x]) (rest := []) B hM (ok_X4_init hbT hkd) cal_X4_init q324 rfl hl.1 (Nat.le_of_ble_eq_true rfl) dX6_init_7 ⟨Nat.le_of_ble_eq_true rfl, Nat.le_of_ble_eq_true rfl⟩ ⟨Nat.le_of_ble_eq_true rfl, Nat.le_of_ble_eq_true rfl⟩) hM (fun th2 rh2 ph2 ka2 H locs hI hM => ?_)
  refine r_vretG B hr hM dX6_init_10 ?_
  subst e1
  exact hI.up
theorem ok_X9_init {n : Nat} {rc : vw_C} (hbT : th b = some (10000 + b, .inl (4 + kd))) (hkd : kd ≤ 5) (hc : gCl[4 + kd]? = some rc) (hins : Cond.instantiable rc.1 n ∈ lw_all) (hlay : Cond.laysFinal rc.1 "LevelCellars$Sealed" "this$0" "LLevelCellars;" ∈ lw_all) : Met l yX9_init (ws_ yX9_init cX9_init 2 none) (RM 2 1 3) (Pc2 G b n [.ref b, .ref x] th rh ph ka) (QGv G (IniC x b th rh ph ka)) 1 3 (frG G) := by
  refine m_of2 (by decide) (Nat.le_of_ble_eq_true rfl) ?_
  intro p_ e_ s_ m_ below_ meth_ c_ B hr hnm ls hl hM hz
  have hx := B.1
  have hb := B.2.1
  refine lv_aload_n hx hb dX9_init_0 rfl (lv_at hl 0 rfl) ?_
  refine lv_aload_n hx hb dX9_init_1 rfl (lv_at hl 1 rfl) ?_
  refine r_putX B hM hnm hbT hkd hc hz hins hlay q369 dX9_init_2 (fun w0 rh1 H locs e1 hz hM => ?_)
  refine lv_aload_n hx hb dX9_init_5 rfl (lv_at hl 0 rfl) ?_
  refine lv_aload_n hx hb dX9_init_6 rfl (lv_at hl 1 rfl) ?_
  refine k_vG (r_IN (As := [.ref x]) (rest := []) B hM (ok_X4_init hbT hkd) cal_X4_init q368 rfl hl.1 (Nat.le_of_ble_eq_true rfl) dX9_init_7 ⟨Nat.le_of_ble_eq_true rfl, Nat.le_of_ble_eq_true rfl⟩ ⟨Nat.le_of_ble_eq_true rfl, Nat.le_of_ble_eq_true rfl⟩) hM (fun th2 rh2 ph2 ka2 H locs hI hM => ?_)
  refine r_vretG B hr hM dX9_init_10 ?_
  subst e1
  exact hI.up
theorem ok_X7_init {n : Nat} {rc : vw_C} (hbT : th b = some (10000 + b, .inl (4 + kd))) (hkd : kd ≤ 5) (hc : gCl[4 + kd]? = some rc) (hins : Cond.instantiable rc.1 n ∈ lw_all) (hlay : Cond.laysFinal rc.1 "LevelCellars$Vault" "this$0" "LLevelCellars;" ∈ lw_all) (hlay2 : Cond.laysFinal rc.1 "LevelCellars$Deep" "this$0" "LLevelCellars;" ∈ lw_all) : Met l yX7_init (ws_ yX7_init cX7_init 2 none) (RM 3 1 3) (Pc2 G b n [.ref b, .ref x] th rh ph ka) (QGv G (IniC x b th rh ph ka)) 1 3 (frG G) := by
  refine m_of2 (by decide) (Nat.le_of_ble_eq_true rfl) ?_
  intro p_ e_ s_ m_ below_ meth_ c_ B hr hnm ls hl hM hz
  have hx := B.1
  have hb := B.2.1
  refine lv_aload_n hx hb dX7_init_0 rfl (lv_at hl 0 rfl) ?_
  refine lv_aload_n hx hb dX7_init_1 rfl (lv_at hl 1 rfl) ?_
  refine r_putX B hM hnm hbT hkd hc hz hins hlay q339 dX7_init_2 (fun w0 rh1 H locs e1 hz hM => ?_)
  refine lv_aload_n hx hb dX7_init_5 rfl (lv_at hl 0 rfl) ?_
  refine lv_aload_n hx hb dX7_init_6 rfl (lv_at hl 1 rfl) ?_
  refine k_vG (r_IN2 (As := [.ref x]) (rest := []) B hM hz (ok_X5_init hbT hkd hc hins hlay2) cal_X5_init q338 rfl hl.1 (Nat.le_of_ble_eq_true rfl) dX7_init_7 ⟨Nat.le_of_ble_eq_true rfl, Nat.le_of_ble_eq_true rfl⟩ ⟨Nat.le_of_ble_eq_true rfl, Nat.le_of_ble_eq_true rfl⟩) hM (fun th2 rh2 ph2 ka2 H locs hI hM => ?_)
  refine r_vretG B hr hM dX7_init_10 ?_
  subst e1
  exact hI.up
theorem ok_X8_init {n : Nat} {rc : vw_C} (hbT : th b = some (10000 + b, .inl (4 + kd))) (hkd : kd ≤ 5) (hc : gCl[4 + kd]? = some rc) (hins : Cond.instantiable rc.1 n ∈ lw_all) (hlay : Cond.laysFinal rc.1 "LevelCellars$Church" "this$0" "LLevelCellars;" ∈ lw_all) (hlay2 : Cond.laysFinal rc.1 "LevelCellars$Leaky" "this$0" "LLevelCellars;" ∈ lw_all) : Met l yX8_init (ws_ yX8_init cX8_init 2 none) (RM 3 1 3) (Pc2 G b n [.ref b, .ref x] th rh ph ka) (QGv G (IniC x b th rh ph ka)) 1 3 (frG G) := by
  refine m_of2 (by decide) (Nat.le_of_ble_eq_true rfl) ?_
  intro p_ e_ s_ m_ below_ meth_ c_ B hr hnm ls hl hM hz
  have hx := B.1
  have hb := B.2.1
  refine lv_aload_n hx hb dX8_init_0 rfl (lv_at hl 0 rfl) ?_
  refine lv_aload_n hx hb dX8_init_1 rfl (lv_at hl 1 rfl) ?_
  refine r_putX B hM hnm hbT hkd hc hz hins hlay q354 dX8_init_2 (fun w0 rh1 H locs e1 hz hM => ?_)
  refine lv_aload_n hx hb dX8_init_5 rfl (lv_at hl 0 rfl) ?_
  refine lv_aload_n hx hb dX8_init_6 rfl (lv_at hl 1 rfl) ?_
  refine k_vG (r_IN2 (As := [.ref x]) (rest := []) B hM hz (ok_X6_init hbT hkd hc hins hlay2) cal_X6_init q353 rfl hl.1 (Nat.le_of_ble_eq_true rfl) dX8_init_7 ⟨Nat.le_of_ble_eq_true rfl, Nat.le_of_ble_eq_true rfl⟩ ⟨Nat.le_of_ble_eq_true rfl, Nat.le_of_ble_eq_true rfl⟩) hM (fun th2 rh2 ph2 ka2 H locs hI hM => ?_)
  refine r_vretG B hr hM dX8_init_10 ?_
  subst e1
  exact hI.up
end
