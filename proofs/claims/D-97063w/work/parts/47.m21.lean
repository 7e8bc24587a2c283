/-! the model: its beginning -/
set_option maxRecDepth 100000
section
variable {l : Launch} {G : GG} {th : Th} {rh : Rh} {ph : Ph} {ka : Ka} {y0 : Nat} {ay : Nat → Nat}
abbrev PSM : List Nat := [1000, 1001, 1002, 1004, 1005, 1006, 1007, 1015, 1016, 1017, 1020, 1022, 1023, 1024, 1025, 1026, 1027, 1028, 1029, 1030, 1031, 1032, 1033, 1099]
/-- the model's state at its beginning -/
def s00 : Ka := fun j i => if j = 0 then (if i = 0 then 1 else 0) else if j = 15 then kC i else if j = 16 then (if i < 4 then nI (kA i) else 0) else if j = 25 then (if i < 4 then -1 else 0) else 0
theorem row15 : (rw1 (rw1 (rw1 (rw1 (rw1 (rw1 (rw1 (rw1 (rw1 (rw1 (rw1 (fun _ => 0) 0 (vp_nar .char 104)) 1 (vp_nar .char 105)) 2 (vp_nar .char 103)) 3 (vp_nar .char 104)) 4 (vp_nar .char 102)) 5 (vp_nar .char 101)) 6 (vp_nar .char 101)) 7 (vp_nar .char 102)) 8 (vp_nar .char 105)) 9 (vp_nar .char 110)) 10 (vp_nar .char 101)) = s00 15 := by
  funext i
  match i with
  | 0 => rfl
  | 1 => rfl
  | 2 => rfl
  | 3 => rfl
  | 4 => rfl
  | 5 => rfl
  | 6 => rfl
  | 7 => rfl
  | 8 => rfl
  | 9 => rfl
  | 10 => rfl
  | k + 11 => simp [rw1, va_up, s00, kC]
theorem row16 : (rw1 (rw1 (rw1 (rw1 (fun _ => 0) 0 0) 1 4) 2 7) 3 11) = s00 16 := by
  funext i
  match i with
  | 0 => rfl
  | 1 => rfl
  | 2 => rfl
  | 3 => rfl
  | k + 4 => simp [rw1, va_up, s00, show ¬ k + 4 < 4 by omega]
theorem row25 : (rw1 (rw1 (rw1 (rw1 (fun _ => 0) 0 (-1)) 1 (-1)) 2 (-1)) 3 (-1)) = s00 25 := by
  funext i
  match i with
  | 0 => rfl
  | 1 => rfl
  | 2 => rfl
  | 3 => rfl
  | k + 4 => simp [rw1, va_up, s00, show ¬ k + 4 < 4 by omega]
set_option maxHeartbeats 4000000 in
theorem ok_init (h0 : th y0 = some (1099, .inl 3)) (hz : ka 1099 = fun _ => 0) (hf : ∀ j, j < 34 → FreeP th (1000 + j)) : Met l yX3_init (ws_ yX3_init cX3_init 1 none) (RM 1 23 5291) (Pc_ G [.ref y0] th rh ph ka) (QGv G (fun th' rh' ph' ka' => ∃ ay, LayM th' rh' y0 ay ∧ Rel s00 (sg ka') ∧ News th th' PSM ∧ Butr PSM rh ph ka rh' ph' ka')) 23 5291 (frG G) := by
  refine m_of (by decide) (Nat.le_of_ble_eq_true rfl) ?_
  intro p_ e_ s_ m_ below_ meth_ c_ B hr hnm ls hl hM
  have hx := B.1
  have hb := B.2.1
  have hM := hM
  have hT0 : HasT th [] := fun _ h => by cases h
  have hR0 : HasR rh 1099 [] := fun _ h => by cases h
  have hK0 : HasK ka [(1099, fun _ => 0)] := fun q h => by rw [List.mem_singleton.mp h]; exact hz
  have hN0 : News th th [] := News.refl
  have hB0 : Butr PSM rh ph ka rh ph ka := Butr.refl
  refine lv_aload_n hx hb dX3_init_0 rfl (lv_at hl 0 rfl) ?_
  refine W.objInit hx hb B.2.2.2.1 (B.ts _ q1381) (B.ts _ q110) (B.ts _ q111) rfl (hl.1.trans B.2.2.1.symm) rfl dX3_init_1 (Nat.le_of_ble_eq_true rfl) (Nat.le_of_ble_eq_true rfl) ?_
  refine lv_aload_n hx hb dX3_init_4 rfl (lv_at hl 0 rfl) ?_
  refine lv_sipush (v := 1479) hx hb dX3_init_5 (by decide) ?_
  refine r_newaM (t := 0) (atype := .int) B hM 1479 1000 (by decide) (News.free hN0 (hf 0 (by decide)) (by decide)) rfl (by decide) rfl (fun _ => rfl) (by decide) rfl q178 (Nat.le_of_ble_eq_true rfl) (Nat.le_of_ble_eq_true rfl) dX3_init_8 (fun a1 th1 rh1 ph1 ka1 H hn1 et1 er1 ep1 ek1 hM => ?_)
  have hT1 := HasT.new hT0 hn1 (1000, .inr (0, 1479)) et1
  have hR1_1099 := HasR.new hR0 er1 (by decide)
  have hK1 := HasK.new hK0 ek1 (by decide)
  have hN1 := News.add hN0 hn1 et1
  have hB1 := Butr.new hB0 er1 ep1 ek1 (by decide)
  refine r_putFq (ty := .array .int) B hM hnm 0 (hN1.1 _ _ h0) rfl (by decide) rfl rfl q1382 (by decide +kernel) rfl rfl dX3_init_10 (fun rh_2 H locs erh_2 hM => ?_)
  have hQ3 := HasR.put hR1_1099 erh_2 (by simp)
  have hW3 := Butr.put hB1 erh_2 (by decide)
  refine lv_aload_n hx hb dX3_init_13 rfl (lv_at hl 0 rfl) ?_
  refine lv_sipush (v := 1479) hx hb dX3_init_14 (by decide) ?_
  refine r_newaM (t := 0) (atype := .int) B hM 1479 1001 (by decide) (News.free hN1 (hf 1 (by decide)) (by decide)) rfl (by decide) rfl (fun _ => rfl) (by decide) rfl q178 (Nat.le_of_ble_eq_true rfl) (Nat.le_of_ble_eq_true rfl) dX3_init_17 (fun a4 th4 rh4 ph4 ka4 H hn4 et4 er4 ep4 ek4 hM => ?_)
  have hT4 := HasT.new hT1 hn4 (1001, .inr (0, 1479)) et4
  have hR4_1099 := HasR.new hQ3 er4 (by decide)
  have hK4 := HasK.new hK1 ek4 (by decide)
  have hN4 := News.add hN1 hn4 et4
  have hB4 := Butr.new hW3 er4 ep4 ek4 (by decide)
  refine r_putFq (ty := .array .int) B hM hnm 1 (hN4.1 _ _ h0) rfl (by decide) rfl rfl q1383 (by decide +kernel) rfl rfl dX3_init_19 (fun rh_5 H locs erh_5 hM => ?_)
  have hQ6 := HasR.put hR4_1099 erh_5 (by simp)
  have hW6 := Butr.put hB4 erh_5 (by decide)
  refine lv_aload_n hx hb dX3_init_22 rfl (lv_at hl 0 rfl) ?_
  refine lv_sipush (v := 1479) hx hb dX3_init_23 (by decide) ?_
  refine r_newaM (t := 0) (atype := .int) B hM 1479 1002 (by decide) (News.free hN4 (hf 2 (by decide)) (by decide)) rfl (by decide) rfl (fun _ => rfl) (by decide) rfl q178 (Nat.le_of_ble_eq_true rfl) (Nat.le_of_ble_eq_true rfl) dX3_init_26 (fun a7 th7 rh7 ph7 ka7 H hn7 et7 er7 ep7 ek7 hM => ?_)
  have hT7 := HasT.new hT4 hn7 (1002, .inr (0, 1479)) et7
  have hR7_1099 := HasR.new hQ6 er7 (by decide)
  have hK7 := HasK.new hK4 ek7 (by decide)
  have hN7 := News.add hN4 hn7 et7
  have hB7 := Butr.new hW6 er7 ep7 ek7 (by decide)
  refine r_putFq (ty := .array .int) B hM hnm 2 (hN7.1 _ _ h0) rfl (by decide) rfl rfl q1384 (by decide +kernel) rfl rfl dX3_init_28 (fun rh_8 H locs erh_8 hM => ?_)
  have hQ9 := HasR.put hR7_1099 erh_8 (by simp)
  have hW9 := Butr.put hB7 erh_8 (by decide)
  refine lv_aload_n hx hb dX3_init_31 rfl (lv_at hl 0 rfl) ?_
  refine lv_iconst (v := 3) hx hb dX3_init_32 (by decide) ?_
  refine r_newaM (t := 0) (atype := .int) B hM 3 1004 (by decide) (News.free hN7 (hf 4 (by decide)) (by decide)) rfl (by decide) rfl (fun _ => rfl) (by decide) rfl q178 (Nat.le_of_ble_eq_true rfl) (Nat.le_of_ble_eq_true rfl) dX3_init_33 (fun a10 th10 rh10 ph10 ka10 H hn10 et10 er10 ep10 ek10 hM => ?_)
  have hT10 := HasT.new hT7 hn10 (1004, .inr (0, 3)) et10
  have hR10_1099 := HasR.new hQ9 er10 (by decide)
  have hK10 := HasK.new hK7 ek10 (by decide)
  have hN10 := News.add hN7 hn10 et10
  have hB10 := Butr.new hW9 er10 ep10 ek10 (by decide)
  refine r_putFq (ty := .array .int) B hM hnm 4 (hN10.1 _ _ h0) rfl (by decide) rfl rfl q1386 (by decide +kernel) rfl rfl dX3_init_35 (fun rh_11 H locs erh_11 hM => ?_)
  have hQ12 := HasR.put hR10_1099 erh_11 (by simp)
  have hW12 := Butr.put hB10 erh_11 (by decide)
  refine lv_aload_n hx hb dX3_init_38 rfl (lv_at hl 0 rfl) ?_
  refine lv_bipush (v := 107) hx hb dX3_init_39 (by decide) ?_
  refine r_newaM (t := 0) (atype := .int) B hM 107 1005 (by decide) (News.free hN10 (hf 5 (by decide)) (by decide)) rfl (by decide) rfl (fun _ => rfl) (by decide) rfl q178 (Nat.le_of_ble_eq_true rfl) (Nat.le_of_ble_eq_true rfl) dX3_init_41 (fun a13 th13 rh13 ph13 ka13 H hn13 et13 er13 ep13 ek13 hM => ?_)
  have hT13 := HasT.new hT10 hn13 (1005, .inr (0, 107)) et13
  have hR13_1099 := HasR.new hQ12 er13 (by decide)
  have hK13 := HasK.new hK10 ek13 (by decide)
  have hN13 := News.add hN10 hn13 et13
  have hB13 := Butr.new hW12 er13 ep13 ek13 (by decide)
  refine r_putFq (ty := .array .int) B hM hnm 5 (hN13.1 _ _ h0) rfl (by decide) rfl rfl q1387 (by decide +kernel) rfl rfl dX3_init_43 (fun rh_14 H locs erh_14 hM => ?_)
  have hQ15 := HasR.put hR13_1099 erh_14 (by simp)
  have hW15 := Butr.put hB13 erh_14 (by decide)
  refine lv_aload_n hx hb dX3_init_46 rfl (lv_at hl 0 rfl) ?_
  refine lv_bipush (v := 8) hx hb dX3_init_47 (by decide) ?_
  refine r_newaM (t := 0) (atype := .int) B hM 8 1006 (by decide) (News.free hN13 (hf 6 (by decide)) (by decide)) rfl (by decide) rfl (fun _ => rfl) (by decide) rfl q178 (Nat.le_of_ble_eq_true rfl) (Nat.le_of_ble_eq_true rfl) dX3_init_49 (fun a16 th16 rh16 ph16 ka16 H hn16 et16 er16 ep16 ek16 hM => ?_)
  have hT16 := HasT.new hT13 hn16 (1006, .inr (0, 8)) et16
  have hR16_1099 := HasR.new hQ15 er16 (by decide)
  have hK16 := HasK.new hK13 ek16 (by decide)
  have hN16 := News.add hN13 hn16 et16
  have hB16 := Butr.new hW15 er16 ep16 ek16 (by decide)
  refine r_putFq (ty := .array .int) B hM hnm 6 (hN16.1 _ _ h0) rfl (by decide) rfl rfl q1388 (by decide +kernel) rfl rfl dX3_init_51 (fun rh_17 H locs erh_17 hM => ?_)
  have hQ18 := HasR.put hR16_1099 erh_17 (by simp)
  have hW18 := Butr.put hB16 erh_17 (by decide)
  refine lv_aload_n hx hb dX3_init_54 rfl (lv_at hl 0 rfl) ?_
  refine lv_bipush (v := 96) hx hb dX3_init_55 (by decide) ?_
  refine r_newaM (t := 0) (atype := .int) B hM 96 1007 (by decide) (News.free hN16 (hf 7 (by decide)) (by decide)) rfl (by decide) rfl (fun _ => rfl) (by decide) rfl q178 (Nat.le_of_ble_eq_true rfl) (Nat.le_of_ble_eq_true rfl) dX3_init_57 (fun a19 th19 rh19 ph19 ka19 H hn19 et19 er19 ep19 ek19 hM => ?_)
  have hT19 := HasT.new hT16 hn19 (1007, .inr (0, 96)) et19
  have hR19_1099 := HasR.new hQ18 er19 (by decide)
  have hK19 := HasK.new hK16 ek19 (by decide)
  have hN19 := News.add hN16 hn19 et19
  have hB19 := Butr.new hW18 er19 ep19 ek19 (by decide)
  refine r_putFq (ty := .array .int) B hM hnm 7 (hN19.1 _ _ h0) rfl (by decide) rfl rfl q1389 (by decide +kernel) rfl rfl dX3_init_59 (fun rh_20 H locs erh_20 hM => ?_)
  have hQ21 := HasR.put hR19_1099 erh_20 (by simp)
  have hW21 := Butr.put hB19 erh_20 (by decide)
  refine lv_aload_n hx hb dX3_init_62 rfl (lv_at hl 0 rfl) ?_
  refine lv_bipush (v := 11) hx hb dX3_init_63 (by decide) ?_
  refine r_newaM (t := 3) (atype := .char) B hM 11 1015 (by decide) (News.free hN19 (hf 15 (by decide)) (by decide)) rfl (by decide) rfl (fun _ => rfl) (by decide) rfl q1488 (Nat.le_of_ble_eq_true rfl) (Nat.le_of_ble_eq_true rfl) dX3_init_65 (fun a22 th22 rh22 ph22 ka22 H hn22 et22 er22 ep22 ek22 hM => ?_)
  have hT22 := HasT.new hT19 hn22 (1015, .inr (3, 11)) et22
  have hR22_1099 := HasR.new hQ21 er22 (by decide)
  have hK22 := HasK.new hK19 ek22 (by decide)
  have hN22 := News.add hN19 hn22 et22
  have hB22 := Butr.new hW21 er22 ep22 ek22 (by decide)
  refine lv_dup hx hb dX3_init_67 rfl ?_
  refine lv_iconst (v := 0) hx hb dX3_init_68 (by decide) ?_
  refine lv_bipush (v := 104) hx hb dX3_init_69 (by decide) ?_
  refine r_cst B hM 0 (hT22 _ List.mem_cons_self) rfl (by decide) (by decide) dX3_init_71 (fun ka_23 H locs eka_23 hM => ?_)
  have hW24 := Butr.up hB22 eka_23 (by decide)
  have hK24 := HasK.up hK22 eka_23 (by decide)
  refine lv_dup hx hb dX3_init_72 rfl ?_
  refine lv_iconst (v := 1) hx hb dX3_init_73 (by decide) ?_
  refine lv_bipush (v := 105) hx hb dX3_init_74 (by decide) ?_
  refine r_cst B hM 1 (hT22 _ List.mem_cons_self) rfl (by decide) (by decide) dX3_init_76 (fun ka_25 H locs eka_25 hM => ?_)
  have hW26 := Butr.up hW24 eka_25 (by decide)
  have hK26 := HasK.up hK24 eka_25 (by decide)
  refine lv_dup hx hb dX3_init_77 rfl ?_
  refine lv_iconst (v := 2) hx hb dX3_init_78 (by decide) ?_
  refine lv_bipush (v := 103) hx hb dX3_init_79 (by decide) ?_
  refine r_cst B hM 2 (hT22 _ List.mem_cons_self) rfl (by decide) (by decide) dX3_init_81 (fun ka_27 H locs eka_27 hM => ?_)
  have hW28 := Butr.up hW26 eka_27 (by decide)
  have hK28 := HasK.up hK26 eka_27 (by decide)
  refine lv_dup hx hb dX3_init_82 rfl ?_
  refine lv_iconst (v := 3) hx hb dX3_init_83 (by decide) ?_
  refine lv_bipush (v := 104) hx hb dX3_init_84 (by decide) ?_
  refine r_cst B hM 3 (hT22 _ List.mem_cons_self) rfl (by decide) (by decide) dX3_init_86 (fun ka_29 H locs eka_29 hM => ?_)
  have hW30 := Butr.up hW28 eka_29 (by decide)
  have hK30 := HasK.up hK28 eka_29 (by decide)
  refine lv_dup hx hb dX3_init_87 rfl ?_
  refine lv_iconst (v := 4) hx hb dX3_init_88 (by decide) ?_
  refine lv_bipush (v := 102) hx hb dX3_init_89 (by decide) ?_
  refine r_cst B hM 4 (hT22 _ List.mem_cons_self) rfl (by decide) (by decide) dX3_init_91 (fun ka_31 H locs eka_31 hM => ?_)
  have hW32 := Butr.up hW30 eka_31 (by decide)
  have hK32 := HasK.up hK30 eka_31 (by decide)
  refine lv_dup hx hb dX3_init_92 rfl ?_
  refine lv_iconst (v := 5) hx hb dX3_init_93 (by decide) ?_
  refine lv_bipush (v := 101) hx hb dX3_init_94 (by decide) ?_
  refine r_cst B hM 5 (hT22 _ List.mem_cons_self) rfl (by decide) (by decide) dX3_init_96 (fun ka_33 H locs eka_33 hM => ?_)
  have hW34 := Butr.up hW32 eka_33 (by decide)
  have hK34 := HasK.up hK32 eka_33 (by decide)
  refine lv_dup hx hb dX3_init_97 rfl ?_
  refine lv_bipush (v := 6) hx hb dX3_init_98 (by decide) ?_
  refine lv_bipush (v := 101) hx hb dX3_init_100 (by decide) ?_
  refine r_cst B hM 6 (hT22 _ List.mem_cons_self) rfl (by decide) (by decide) dX3_init_102 (fun ka_35 H locs eka_35 hM => ?_)
  have hW36 := Butr.up hW34 eka_35 (by decide)
  have hK36 := HasK.up hK34 eka_35 (by decide)
  refine lv_dup hx hb dX3_init_103 rfl ?_
  refine lv_bipush (v := 7) hx hb dX3_init_104 (by decide) ?_
  refine lv_bipush (v := 102) hx hb dX3_init_106 (by decide) ?_
  refine r_cst B hM 7 (hT22 _ List.mem_cons_self) rfl (by decide) (by decide) dX3_init_108 (fun ka_37 H locs eka_37 hM => ?_)
  have hW38 := Butr.up hW36 eka_37 (by decide)
  have hK38 := HasK.up hK36 eka_37 (by decide)
  refine lv_dup hx hb dX3_init_109 rfl ?_
  refine lv_bipush (v := 8) hx hb dX3_init_110 (by decide) ?_
  refine lv_bipush (v := 105) hx hb dX3_init_112 (by decide) ?_
  refine r_cst B hM 8 (hT22 _ List.mem_cons_self) rfl (by decide) (by decide) dX3_init_114 (fun ka_39 H locs eka_39 hM => ?_)
  have hW40 := Butr.up hW38 eka_39 (by decide)
  have hK40 := HasK.up hK38 eka_39 (by decide)
  refine lv_dup hx hb dX3_init_115 rfl ?_
  refine lv_bipush (v := 9) hx hb dX3_init_116 (by decide) ?_
  refine lv_bipush (v := 110) hx hb dX3_init_118 (by decide) ?_
  refine r_cst B hM 9 (hT22 _ List.mem_cons_self) rfl (by decide) (by decide) dX3_init_120 (fun ka_41 H locs eka_41 hM => ?_)
  have hW42 := Butr.up hW40 eka_41 (by decide)
  have hK42 := HasK.up hK40 eka_41 (by decide)
  refine lv_dup hx hb dX3_init_121 rfl ?_
  refine lv_bipush (v := 10) hx hb dX3_init_122 (by decide) ?_
  refine lv_bipush (v := 101) hx hb dX3_init_124 (by decide) ?_
  refine r_cst B hM 10 (hT22 _ List.mem_cons_self) rfl (by decide) (by decide) dX3_init_126 (fun ka_43 H locs eka_43 hM => ?_)
  have hW44 := Butr.up hW42 eka_43 (by decide)
  have hK44 := HasK.up hK42 eka_43 (by decide)
  refine r_putFq (ty := .array .char) B hM hnm 15 (hN22.1 _ _ h0) rfl (by decide) rfl rfl q1397 (by decide +kernel) rfl rfl dX3_init_127 (fun rh_45 H locs erh_45 hM => ?_)
  have hQ46 := HasR.put hR22_1099 erh_45 (by simp)
  have hW46 := Butr.put hW44 erh_45 (by decide)
  refine lv_aload_n hx hb dX3_init_130 rfl (lv_at hl 0 rfl) ?_
  refine lv_iconst (v := 4) hx hb dX3_init_131 (by decide) ?_
  refine r_newaM (t := 0) (atype := .int) B hM 4 1016 (by decide) (News.free hN22 (hf 16 (by decide)) (by decide)) rfl (by decide) rfl (fun _ => rfl) (by decide) rfl q178 (Nat.le_of_ble_eq_true rfl) (Nat.le_of_ble_eq_true rfl) dX3_init_132 (fun a47 th47 rh47 ph47 ka47 H hn47 et47 er47 ep47 ek47 hM => ?_)
  have hT47 := HasT.new hT22 hn47 (1016, .inr (0, 4)) et47
  have hR47_1099 := HasR.new hQ46 er47 (by decide)
  have hK47 := HasK.new hK44 ek47 (by decide)
  have hN47 := News.add hN22 hn47 et47
  have hB47 := Butr.new hW46 er47 ep47 ek47 (by decide)
  refine lv_dup hx hb dX3_init_134 rfl ?_
  refine lv_iconst (v := 0) hx hb dX3_init_135 (by decide) ?_
  refine lv_iconst (v := 0) hx hb dX3_init_136 (by decide) ?_
  refine r_ist B hM 0 (hT47 _ List.mem_cons_self) rfl (by decide) (by decide) dX3_init_137 (fun ka_48 H locs eka_48 hM => ?_)
  have hW49 := Butr.up hB47 eka_48 (by decide)
  have hK49 := HasK.up hK47 eka_48 (by decide)
  refine lv_dup hx hb dX3_init_138 rfl ?_
  refine lv_iconst (v := 1) hx hb dX3_init_139 (by decide) ?_
  refine lv_iconst (v := 4) hx hb dX3_init_140 (by decide) ?_
  refine r_ist B hM 1 (hT47 _ List.mem_cons_self) rfl (by decide) (by decide) dX3_init_141 (fun ka_50 H locs eka_50 hM => ?_)
  have hW51 := Butr.up hW49 eka_50 (by decide)
  have hK51 := HasK.up hK49 eka_50 (by decide)
  refine lv_dup hx hb dX3_init_142 rfl ?_
  refine lv_iconst (v := 2) hx hb dX3_init_143 (by decide) ?_
  refine lv_bipush (v := 7) hx hb dX3_init_144 (by decide) ?_
  refine r_ist B hM 2 (hT47 _ List.mem_cons_self) rfl (by decide) (by decide) dX3_init_146 (fun ka_52 H locs eka_52 hM => ?_)
  have hW53 := Butr.up hW51 eka_52 (by decide)
  have hK53 := HasK.up hK51 eka_52 (by decide)
  refine lv_dup hx hb dX3_init_147 rfl ?_
  refine lv_iconst (v := 3) hx hb dX3_init_148 (by decide) ?_
  refine lv_bipush (v := 11) hx hb dX3_init_149 (by decide) ?_
  refine r_ist B hM 3 (hT47 _ List.mem_cons_self) rfl (by decide) (by decide) dX3_init_151 (fun ka_54 H locs eka_54 hM => ?_)
  have hW55 := Butr.up hW53 eka_54 (by decide)
  have hK55 := HasK.up hK53 eka_54 (by decide)
  refine r_putFq (ty := .array .int) B hM hnm 16 (hN47.1 _ _ h0) rfl (by decide) rfl rfl q1398 (by decide +kernel) rfl rfl dX3_init_152 (fun rh_56 H locs erh_56 hM => ?_)
  have hQ57 := HasR.put hR47_1099 erh_56 (by simp)
  have hW57 := Butr.put hW55 erh_56 (by decide)
  refine lv_aload_n hx hb dX3_init_155 rfl (lv_at hl 0 rfl) ?_
  refine lv_bipush (v := 96) hx hb dX3_init_156 (by decide) ?_
  refine r_newaM (t := 0) (atype := .int) B hM 96 1017 (by decide) (News.free hN47 (hf 17 (by decide)) (by decide)) rfl (by decide) rfl (fun _ => rfl) (by decide) rfl q178 (Nat.le_of_ble_eq_true rfl) (Nat.le_of_ble_eq_true rfl) dX3_init_158 (fun a58 th58 rh58 ph58 ka58 H hn58 et58 er58 ep58 ek58 hM => ?_)
  have hT58 := HasT.new hT47 hn58 (1017, .inr (0, 96)) et58
  have hR58_1099 := HasR.new hQ57 er58 (by decide)
  have hK58 := HasK.new hK55 ek58 (by decide)
  have hN58 := News.add hN47 hn58 et58
  have hB58 := Butr.new hW57 er58 ep58 ek58 (by decide)
  refine r_putFq (ty := .array .int) B hM hnm 17 (hN58.1 _ _ h0) rfl (by decide) rfl rfl q1399 (by decide +kernel) rfl rfl dX3_init_160 (fun rh_59 H locs erh_59 hM => ?_)
  have hQ60 := HasR.put hR58_1099 erh_59 (by simp)
  have hW60 := Butr.put hB58 erh_59 (by decide)
  refine lv_aload_n hx hb dX3_init_163 rfl (lv_at hl 0 rfl) ?_
  refine lv_bipush (v := 96) hx hb dX3_init_164 (by decide) ?_
  refine r_newaM (t := 0) (atype := .int) B hM 96 1020 (by decide) (News.free hN58 (hf 20 (by decide)) (by decide)) rfl (by decide) rfl (fun _ => rfl) (by decide) rfl q178 (Nat.le_of_ble_eq_true rfl) (Nat.le_of_ble_eq_true rfl) dX3_init_166 (fun a61 th61 rh61 ph61 ka61 H hn61 et61 er61 ep61 ek61 hM => ?_)
  have hT61 := HasT.new hT58 hn61 (1020, .inr (0, 96)) et61
  have hR61_1099 := HasR.new hQ60 er61 (by decide)
  have hK61 := HasK.new hK58 ek61 (by decide)
  have hN61 := News.add hN58 hn61 et61
  have hB61 := Butr.new hW60 er61 ep61 ek61 (by decide)
  refine r_putFq (ty := .array .int) B hM hnm 20 (hN61.1 _ _ h0) rfl (by decide) rfl rfl q1402 (by decide +kernel) rfl rfl dX3_init_168 (fun rh_62 H locs erh_62 hM => ?_)
  have hQ63 := HasR.put hR61_1099 erh_62 (by simp)
  have hW63 := Butr.put hB61 erh_62 (by decide)
  refine lv_aload_n hx hb dX3_init_171 rfl (lv_at hl 0 rfl) ?_
  refine lv_bipush (v := 10) hx hb dX3_init_172 (by decide) ?_
  refine r_newaM (t := 1) (atype := .boolean) B hM 10 1022 (by decide) (News.free hN61 (hf 22 (by decide)) (by decide)) rfl (by decide) rfl (fun _ => rfl) (by decide) rfl q179 (Nat.le_of_ble_eq_true rfl) (Nat.le_of_ble_eq_true rfl) dX3_init_174 (fun a64 th64 rh64 ph64 ka64 H hn64 et64 er64 ep64 ek64 hM => ?_)
  have hT64 := HasT.new hT61 hn64 (1022, .inr (1, 10)) et64
  have hR64_1099 := HasR.new hQ63 er64 (by decide)
  have hK64 := HasK.new hK61 ek64 (by decide)
  have hN64 := News.add hN61 hn64 et64
  have hB64 := Butr.new hW63 er64 ep64 ek64 (by decide)
  refine r_putFq (ty := .array .boolean) B hM hnm 22 (hN64.1 _ _ h0) rfl (by decide) rfl rfl q1404 (by decide +kernel) rfl rfl dX3_init_176 (fun rh_65 H locs erh_65 hM => ?_)
  have hQ66 := HasR.put hR64_1099 erh_65 (by simp)
  have hW66 := Butr.put hB64 erh_65 (by decide)
  refine lv_aload_n hx hb dX3_init_179 rfl (lv_at hl 0 rfl) ?_
  refine lv_bipush (v := 96) hx hb dX3_init_180 (by decide) ?_
  refine r_newaM (t := 0) (atype := .int) B hM 96 1023 (by decide) (News.free hN64 (hf 23 (by decide)) (by decide)) rfl (by decide) rfl (fun _ => rfl) (by decide) rfl q178 (Nat.le_of_ble_eq_true rfl) (Nat.le_of_ble_eq_true rfl) dX3_init_182 (fun a67 th67 rh67 ph67 ka67 H hn67 et67 er67 ep67 ek67 hM => ?_)
  have hT67 := HasT.new hT64 hn67 (1023, .inr (0, 96)) et67
  have hR67_1099 := HasR.new hQ66 er67 (by decide)
  have hK67 := HasK.new hK64 ek67 (by decide)
  have hN67 := News.add hN64 hn67 et67
  have hB67 := Butr.new hW66 er67 ep67 ek67 (by decide)
  refine r_putFq (ty := .array .int) B hM hnm 23 (hN67.1 _ _ h0) rfl (by decide) rfl rfl q1405 (by decide +kernel) rfl rfl dX3_init_184 (fun rh_68 H locs erh_68 hM => ?_)
  have hQ69 := HasR.put hR67_1099 erh_68 (by simp)
  have hW69 := Butr.put hB67 erh_68 (by decide)
  refine lv_aload_n hx hb dX3_init_187 rfl (lv_at hl 0 rfl) ?_
  refine lv_iconst (v := 4) hx hb dX3_init_188 (by decide) ?_
  refine r_newaM (t := 0) (atype := .int) B hM 4 1024 (by decide) (News.free hN67 (hf 24 (by decide)) (by decide)) rfl (by decide) rfl (fun _ => rfl) (by decide) rfl q178 (Nat.le_of_ble_eq_true rfl) (Nat.le_of_ble_eq_true rfl) dX3_init_189 (fun a70 th70 rh70 ph70 ka70 H hn70 et70 er70 ep70 ek70 hM => ?_)
  have hT70 := HasT.new hT67 hn70 (1024, .inr (0, 4)) et70
  have hR70_1099 := HasR.new hQ69 er70 (by decide)
  have hK70 := HasK.new hK67 ek70 (by decide)
  have hN70 := News.add hN67 hn70 et70
  have hB70 := Butr.new hW69 er70 ep70 ek70 (by decide)
  refine r_putFq (ty := .array .int) B hM hnm 24 (hN70.1 _ _ h0) rfl (by decide) rfl rfl q1406 (by decide +kernel) rfl rfl dX3_init_191 (fun rh_71 H locs erh_71 hM => ?_)
  have hQ72 := HasR.put hR70_1099 erh_71 (by simp)
  have hW72 := Butr.put hB70 erh_71 (by decide)
  refine lv_aload_n hx hb dX3_init_194 rfl (lv_at hl 0 rfl) ?_
  refine lv_iconst (v := 4) hx hb dX3_init_195 (by decide) ?_
  refine r_newaM (t := 0) (atype := .int) B hM 4 1025 (by decide) (News.free hN70 (hf 25 (by decide)) (by decide)) rfl (by decide) rfl (fun _ => rfl) (by decide) rfl q178 (Nat.le_of_ble_eq_true rfl) (Nat.le_of_ble_eq_true rfl) dX3_init_196 (fun a73 th73 rh73 ph73 ka73 H hn73 et73 er73 ep73 ek73 hM => ?_)
  have hT73 := HasT.new hT70 hn73 (1025, .inr (0, 4)) et73
  have hR73_1099 := HasR.new hQ72 er73 (by decide)
  have hK73 := HasK.new hK70 ek73 (by decide)
  have hN73 := News.add hN70 hn73 et73
  have hB73 := Butr.new hW72 er73 ep73 ek73 (by decide)
  refine lv_dup hx hb dX3_init_198 rfl ?_
  refine lv_iconst (v := 0) hx hb dX3_init_199 (by decide) ?_
  refine lv_iconst (v := (-1)) hx hb dX3_init_200 (by decide) ?_
  refine r_ist B hM 0 (hT73 _ List.mem_cons_self) rfl (by decide) (by decide) dX3_init_201 (fun ka_74 H locs eka_74 hM => ?_)
  have hW75 := Butr.up hB73 eka_74 (by decide)
  have hK75 := HasK.up hK73 eka_74 (by decide)
  refine lv_dup hx hb dX3_init_202 rfl ?_
  refine lv_iconst (v := 1) hx hb dX3_init_203 (by decide) ?_
  refine lv_iconst (v := (-1)) hx hb dX3_init_204 (by decide) ?_
  refine r_ist B hM 1 (hT73 _ List.mem_cons_self) rfl (by decide) (by decide) dX3_init_205 (fun ka_76 H locs eka_76 hM => ?_)
  have hW77 := Butr.up hW75 eka_76 (by decide)
  have hK77 := HasK.up hK75 eka_76 (by decide)
  refine lv_dup hx hb dX3_init_206 rfl ?_
  refine lv_iconst (v := 2) hx hb dX3_init_207 (by decide) ?_
  refine lv_iconst (v := (-1)) hx hb dX3_init_208 (by decide) ?_
  refine r_ist B hM 2 (hT73 _ List.mem_cons_self) rfl (by decide) (by decide) dX3_init_209 (fun ka_78 H locs eka_78 hM => ?_)
  have hW79 := Butr.up hW77 eka_78 (by decide)
  have hK79 := HasK.up hK77 eka_78 (by decide)
  refine lv_dup hx hb dX3_init_210 rfl ?_
  refine lv_iconst (v := 3) hx hb dX3_init_211 (by decide) ?_
  refine lv_iconst (v := (-1)) hx hb dX3_init_212 (by decide) ?_
  refine r_ist B hM 3 (hT73 _ List.mem_cons_self) rfl (by decide) (by decide) dX3_init_213 (fun ka_80 H locs eka_80 hM => ?_)
  have hW81 := Butr.up hW79 eka_80 (by decide)
  have hK81 := HasK.up hK79 eka_80 (by decide)
  refine r_putFq (ty := .array .int) B hM hnm 25 (hN73.1 _ _ h0) rfl (by decide) rfl rfl q1407 (by decide +kernel) rfl rfl dX3_init_214 (fun rh_82 H locs erh_82 hM => ?_)
  have hQ83 := HasR.put hR73_1099 erh_82 (by simp)
  have hW83 := Butr.put hW81 erh_82 (by decide)
  refine lv_aload_n hx hb dX3_init_217 rfl (lv_at hl 0 rfl) ?_
  refine lv_iconst (v := 4) hx hb dX3_init_218 (by decide) ?_
  refine r_newaM (t := 0) (atype := .int) B hM 4 1026 (by decide) (News.free hN73 (hf 26 (by decide)) (by decide)) rfl (by decide) rfl (fun _ => rfl) (by decide) rfl q178 (Nat.le_of_ble_eq_true rfl) (Nat.le_of_ble_eq_true rfl) dX3_init_219 (fun a84 th84 rh84 ph84 ka84 H hn84 et84 er84 ep84 ek84 hM => ?_)
  have hT84 := HasT.new hT73 hn84 (1026, .inr (0, 4)) et84
  have hR84_1099 := HasR.new hQ83 er84 (by decide)
  have hK84 := HasK.new hK81 ek84 (by decide)
  have hN84 := News.add hN73 hn84 et84
  have hB84 := Butr.new hW83 er84 ep84 ek84 (by decide)
  refine r_putFq (ty := .array .int) B hM hnm 26 (hN84.1 _ _ h0) rfl (by decide) rfl rfl q1408 (by decide +kernel) rfl rfl dX3_init_221 (fun rh_85 H locs erh_85 hM => ?_)
  have hQ86 := HasR.put hR84_1099 erh_85 (by simp)
  have hW86 := Butr.put hB84 erh_85 (by decide)
  refine lv_aload_n hx hb dX3_init_224 rfl (lv_at hl 0 rfl) ?_
  refine lv_bipush (v := 96) hx hb dX3_init_225 (by decide) ?_
  refine r_newaM (t := 0) (atype := .int) B hM 96 1027 (by decide) (News.free hN84 (hf 27 (by decide)) (by decide)) rfl (by decide) rfl (fun _ => rfl) (by decide) rfl q178 (Nat.le_of_ble_eq_true rfl) (Nat.le_of_ble_eq_true rfl) dX3_init_227 (fun a87 th87 rh87 ph87 ka87 H hn87 et87 er87 ep87 ek87 hM => ?_)
  have hT87 := HasT.new hT84 hn87 (1027, .inr (0, 96)) et87
  have hR87_1099 := HasR.new hQ86 er87 (by decide)
  have hK87 := HasK.new hK84 ek87 (by decide)
  have hN87 := News.add hN84 hn87 et87
  have hB87 := Butr.new hW86 er87 ep87 ek87 (by decide)
  refine r_putFq (ty := .array .int) B hM hnm 27 (hN87.1 _ _ h0) rfl (by decide) rfl rfl q1409 (by decide +kernel) rfl rfl dX3_init_229 (fun rh_88 H locs erh_88 hM => ?_)
  have hQ89 := HasR.put hR87_1099 erh_88 (by simp)
  have hW89 := Butr.put hB87 erh_88 (by decide)
  refine lv_aload_n hx hb dX3_init_232 rfl (lv_at hl 0 rfl) ?_
  refine lv_iconst (v := 5) hx hb dX3_init_233 (by decide) ?_
  refine r_newaM (t := 0) (atype := .int) B hM 5 1028 (by decide) (News.free hN87 (hf 28 (by decide)) (by decide)) rfl (by decide) rfl (fun _ => rfl) (by decide) rfl q178 (Nat.le_of_ble_eq_true rfl) (Nat.le_of_ble_eq_true rfl) dX3_init_234 (fun a90 th90 rh90 ph90 ka90 H hn90 et90 er90 ep90 ek90 hM => ?_)
  have hT90 := HasT.new hT87 hn90 (1028, .inr (0, 5)) et90
  have hR90_1099 := HasR.new hQ89 er90 (by decide)
  have hK90 := HasK.new hK87 ek90 (by decide)
  have hN90 := News.add hN87 hn90 et90
  have hB90 := Butr.new hW89 er90 ep90 ek90 (by decide)
  refine r_putFq (ty := .array .int) B hM hnm 28 (hN90.1 _ _ h0) rfl (by decide) rfl rfl q1410 (by decide +kernel) rfl rfl dX3_init_236 (fun rh_91 H locs erh_91 hM => ?_)
  have hQ92 := HasR.put hR90_1099 erh_91 (by simp)
  have hW92 := Butr.put hB90 erh_91 (by decide)
  refine lv_aload_n hx hb dX3_init_239 rfl (lv_at hl 0 rfl) ?_
  refine lv_iconst (v := 5) hx hb dX3_init_240 (by decide) ?_
  refine r_newaM (t := 0) (atype := .int) B hM 5 1029 (by decide) (News.free hN90 (hf 29 (by decide)) (by decide)) rfl (by decide) rfl (fun _ => rfl) (by decide) rfl q178 (Nat.le_of_ble_eq_true rfl) (Nat.le_of_ble_eq_true rfl) dX3_init_241 (fun a93 th93 rh93 ph93 ka93 H hn93 et93 er93 ep93 ek93 hM => ?_)
  have hT93 := HasT.new hT90 hn93 (1029, .inr (0, 5)) et93
  have hR93_1099 := HasR.new hQ92 er93 (by decide)
  have hK93 := HasK.new hK90 ek93 (by decide)
  have hN93 := News.add hN90 hn93 et93
  have hB93 := Butr.new hW92 er93 ep93 ek93 (by decide)
  refine r_putFq (ty := .array .int) B hM hnm 29 (hN93.1 _ _ h0) rfl (by decide) rfl rfl q1411 (by decide +kernel) rfl rfl dX3_init_243 (fun rh_94 H locs erh_94 hM => ?_)
  have hQ95 := HasR.put hR93_1099 erh_94 (by simp)
  have hW95 := Butr.put hB93 erh_94 (by decide)
  refine lv_aload_n hx hb dX3_init_246 rfl (lv_at hl 0 rfl) ?_
  refine lv_iconst (v := 5) hx hb dX3_init_247 (by decide) ?_
  refine r_newaM (t := 0) (atype := .int) B hM 5 1030 (by decide) (News.free hN93 (hf 30 (by decide)) (by decide)) rfl (by decide) rfl (fun _ => rfl) (by decide) rfl q178 (Nat.le_of_ble_eq_true rfl) (Nat.le_of_ble_eq_true rfl) dX3_init_248 (fun a96 th96 rh96 ph96 ka96 H hn96 et96 er96 ep96 ek96 hM => ?_)
  have hT96 := HasT.new hT93 hn96 (1030, .inr (0, 5)) et96
  have hR96_1099 := HasR.new hQ95 er96 (by decide)
  have hK96 := HasK.new hK93 ek96 (by decide)
  have hN96 := News.add hN93 hn96 et96
  have hB96 := Butr.new hW95 er96 ep96 ek96 (by decide)
  refine r_putFq (ty := .array .int) B hM hnm 30 (hN96.1 _ _ h0) rfl (by decide) rfl rfl q1412 (by decide +kernel) rfl rfl dX3_init_250 (fun rh_97 H locs erh_97 hM => ?_)
  have hQ98 := HasR.put hR96_1099 erh_97 (by simp)
  have hW98 := Butr.put hB96 erh_97 (by decide)
  refine lv_aload_n hx hb dX3_init_253 rfl (lv_at hl 0 rfl) ?_
  refine lv_bipush (v := 120) hx hb dX3_init_254 (by decide) ?_
  refine r_newaM (t := 0) (atype := .int) B hM 120 1031 (by decide) (News.free hN96 (hf 31 (by decide)) (by decide)) rfl (by decide) rfl (fun _ => rfl) (by decide) rfl q178 (Nat.le_of_ble_eq_true rfl) (Nat.le_of_ble_eq_true rfl) dX3_init_256 (fun a99 th99 rh99 ph99 ka99 H hn99 et99 er99 ep99 ek99 hM => ?_)
  have hT99 := HasT.new hT96 hn99 (1031, .inr (0, 120)) et99
  have hR99_1099 := HasR.new hQ98 er99 (by decide)
  have hK99 := HasK.new hK96 ek99 (by decide)
  have hN99 := News.add hN96 hn99 et99
  have hB99 := Butr.new hW98 er99 ep99 ek99 (by decide)
  refine r_putFq (ty := .array .int) B hM hnm 31 (hN99.1 _ _ h0) rfl (by decide) rfl rfl q1413 (by decide +kernel) rfl rfl dX3_init_258 (fun rh_100 H locs erh_100 hM => ?_)
  have hQ101 := HasR.put hR99_1099 erh_100 (by simp)
  have hW101 := Butr.put hB99 erh_100 (by decide)
  refine lv_aload_n hx hb dX3_init_261 rfl (lv_at hl 0 rfl) ?_
  refine lv_bipush (v := 24) hx hb dX3_init_262 (by decide) ?_
  refine r_newaM (t := 0) (atype := .int) B hM 24 1032 (by decide) (News.free hN99 (hf 32 (by decide)) (by decide)) rfl (by decide) rfl (fun _ => rfl) (by decide) rfl q178 (Nat.le_of_ble_eq_true rfl) (Nat.le_of_ble_eq_true rfl) dX3_init_264 (fun a102 th102 rh102 ph102 ka102 H hn102 et102 er102 ep102 ek102 hM => ?_)
  have hT102 := HasT.new hT99 hn102 (1032, .inr (0, 24)) et102
  have hR102_1099 := HasR.new hQ101 er102 (by decide)
  have hK102 := HasK.new hK99 ek102 (by decide)
  have hN102 := News.add hN99 hn102 et102
  have hB102 := Butr.new hW101 er102 ep102 ek102 (by decide)
  refine r_putFq (ty := .array .int) B hM hnm 32 (hN102.1 _ _ h0) rfl (by decide) rfl rfl q1414 (by decide +kernel) rfl rfl dX3_init_266 (fun rh_103 H locs erh_103 hM => ?_)
  have hQ104 := HasR.put hR102_1099 erh_103 (by simp)
  have hW104 := Butr.put hB102 erh_103 (by decide)
  refine lv_aload_n hx hb dX3_init_269 rfl (lv_at hl 0 rfl) ?_
  refine lv_bipush (v := 60) hx hb dX3_init_270 (by decide) ?_
  refine r_newaM (t := 0) (atype := .int) B hM 60 1033 (by decide) (News.free hN102 (hf 33 (by decide)) (by decide)) rfl (by decide) rfl (fun _ => rfl) (by decide) rfl q178 (Nat.le_of_ble_eq_true rfl) (Nat.le_of_ble_eq_true rfl) dX3_init_272 (fun a105 th105 rh105 ph105 ka105 H hn105 et105 er105 ep105 ek105 hM => ?_)
  have hT105 := HasT.new hT102 hn105 (1033, .inr (0, 60)) et105
  have hR105_1099 := HasR.new hQ104 er105 (by decide)
  have hK105 := HasK.new hK102 ek105 (by decide)
  have hN105 := News.add hN102 hn105 et105
  have hB105 := Butr.new hW104 er105 ep105 ek105 (by decide)
  refine r_putFq (ty := .array .int) B hM hnm 33 (hN105.1 _ _ h0) rfl (by decide) rfl rfl q1415 (by decide +kernel) rfl rfl dX3_init_274 (fun rh_106 H locs erh_106 hM => ?_)
  have hQ107 := HasR.put hR105_1099 erh_106 (by simp)
  have hW107 := Butr.put hB105 erh_106 (by decide)
  refine lv_aload_n hx hb dX3_init_277 rfl (lv_at hl 0 rfl) ?_
  refine r_getq B hM 0 (hN105.1 _ _ h0) rfl (by decide) rfl rfl (hQ107 (0, a1) (by simp)) q1382 dX3_init_278 ?_
  refine lv_iconst (v := 0) hx hb dX3_init_281 (by decide) ?_
  refine lv_iconst (v := 1) hx hb dX3_init_282 (by decide) ?_
  refine r_ist B hM 0 (hT105 (a1, (1000, .inr (0, 1479))) (by simp)) rfl (by decide) (by decide) dX3_init_283 (fun ka_108 H locs eka_108 hM => ?_)
  have hW109 := Butr.up hW107 eka_108 (by decide)
  refine r_vretG B hr hM dX3_init_284 ?_
  refine ⟨fun j => if j = 0 then a1 else if j = 1 then a4 else if j = 2 then a7 else if j = 4 then a10 else if j = 5 then a13 else if j = 6 then a16 else if j = 7 then a19 else if j = 15 then a22 else if j = 16 then a47 else if j = 17 then a58 else if j = 20 then a61 else if j = 22 then a64 else if j = 23 then a67 else if j = 24 then a70 else if j = 25 then a73 else if j = 26 then a84 else if j = 27 then a87 else if j = 28 then a90 else if j = 29 then a93 else if j = 30 then a96 else if j = 31 then a99 else if j = 32 then a102 else if j = 33 then a105 else 0, ⟨(hN105.1 _ _ h0), fun j t n h => ?_⟩, ⟨fun j hj => ?_, fun k hk => ?_⟩, hN105.mono (by decide), hW109⟩
  · match j, h with
    | 0, h => cases h; exact ⟨hQ107 (0, a1) (by simp), hT105 (a1, (1000, .inr (0, 1479))) (by simp)⟩
    | 1, h => cases h; exact ⟨hQ107 (1, a4) (by simp), hT105 (a4, (1001, .inr (0, 1479))) (by simp)⟩
    | 2, h => cases h; exact ⟨hQ107 (2, a7) (by simp), hT105 (a7, (1002, .inr (0, 1479))) (by simp)⟩
    | 3, h => cases h
    | 4, h => cases h; exact ⟨hQ107 (4, a10) (by simp), hT105 (a10, (1004, .inr (0, 3))) (by simp)⟩
    | 5, h => cases h; exact ⟨hQ107 (5, a13) (by simp), hT105 (a13, (1005, .inr (0, 107))) (by simp)⟩
    | 6, h => cases h; exact ⟨hQ107 (6, a16) (by simp), hT105 (a16, (1006, .inr (0, 8))) (by simp)⟩
    | 7, h => cases h; exact ⟨hQ107 (7, a19) (by simp), hT105 (a19, (1007, .inr (0, 96))) (by simp)⟩
    | 8, h => cases h
    | 9, h => cases h
    | 10, h => cases h
    | 11, h => cases h
    | 12, h => cases h
    | 13, h => cases h
    | 14, h => cases h
    | 15, h => cases h; exact ⟨hQ107 (15, a22) (by simp), hT105 (a22, (1015, .inr (3, 11))) (by simp)⟩
    | 16, h => cases h; exact ⟨hQ107 (16, a47) (by simp), hT105 (a47, (1016, .inr (0, 4))) (by simp)⟩
    | 17, h => cases h; exact ⟨hQ107 (17, a58) (by simp), hT105 (a58, (1017, .inr (0, 96))) (by simp)⟩
    | 18, h => cases h
    | 19, h => cases h
    | 20, h => cases h; exact ⟨hQ107 (20, a61) (by simp), hT105 (a61, (1020, .inr (0, 96))) (by simp)⟩
    | 21, h => cases h
    | 22, h => cases h; exact ⟨hQ107 (22, a64) (by simp), hT105 (a64, (1022, .inr (1, 10))) (by simp)⟩
    | 23, h => cases h; exact ⟨hQ107 (23, a67) (by simp), hT105 (a67, (1023, .inr (0, 96))) (by simp)⟩
    | 24, h => cases h; exact ⟨hQ107 (24, a70) (by simp), hT105 (a70, (1024, .inr (0, 4))) (by simp)⟩
    | 25, h => cases h; exact ⟨hQ107 (25, a73) (by simp), hT105 (a73, (1025, .inr (0, 4))) (by simp)⟩
    | 26, h => cases h; exact ⟨hQ107 (26, a84) (by simp), hT105 (a84, (1026, .inr (0, 4))) (by simp)⟩
    | 27, h => cases h; exact ⟨hQ107 (27, a87) (by simp), hT105 (a87, (1027, .inr (0, 96))) (by simp)⟩
    | 28, h => cases h; exact ⟨hQ107 (28, a90) (by simp), hT105 (a90, (1028, .inr (0, 5))) (by simp)⟩
    | 29, h => cases h; exact ⟨hQ107 (29, a93) (by simp), hT105 (a93, (1029, .inr (0, 5))) (by simp)⟩
    | 30, h => cases h; exact ⟨hQ107 (30, a96) (by simp), hT105 (a96, (1030, .inr (0, 5))) (by simp)⟩
    | 31, h => cases h; exact ⟨hQ107 (31, a99) (by simp), hT105 (a99, (1031, .inr (0, 120))) (by simp)⟩
    | 32, h => cases h; exact ⟨hQ107 (32, a102) (by simp), hT105 (a102, (1032, .inr (0, 24))) (by simp)⟩
    | 33, h => cases h; exact ⟨hQ107 (33, a105) (by simp), hT105 (a105, (1033, .inr (0, 60))) (by simp)⟩
    | k + 34, h => cases h
  · simp only [List.mem_cons, List.not_mem_nil, or_false] at hj
    rcases hj with rfl | rfl | rfl | rfl | rfl | rfl | rfl | rfl | rfl | rfl | rfl | rfl | rfl
    · show ka_108 1000 = _; rw [eka_108, up2_row, hK105 (1000, fun _ => 0) (by simp)]; funext i; by_cases q : i = 0; (subst q; rfl); (rw [va_up_ne _ _ q]; simp [s00, q])
    · show ka_108 1001 = _; rw [eka_108, up2_a _ _ _ (by decide), hK105 (1001, fun _ => 0) (by simp)]; rfl
    · show ka_108 1007 = _; rw [eka_108, up2_a _ _ _ (by decide), hK105 (1007, fun _ => 0) (by simp)]; rfl
    · show ka_108 1015 = _; rw [eka_108, up2_a _ _ _ (by decide), hK105 (1015, _) (by simp; rfl)]; exact row15
    · show ka_108 1016 = _; rw [eka_108, up2_a _ _ _ (by decide), hK105 (1016, _) (by simp; rfl)]; exact row16
    · show ka_108 1025 = _; rw [eka_108, up2_a _ _ _ (by decide), hK105 (1025, _) (by simp; rfl)]; exact row25
    · show ka_108 1026 = _; rw [eka_108, up2_a _ _ _ (by decide), hK105 (1026, fun _ => 0) (by simp)]; rfl
    · show ka_108 1027 = _; rw [eka_108, up2_a _ _ _ (by decide), hK105 (1027, fun _ => 0) (by simp)]; rfl
    · show ka_108 1028 = _; rw [eka_108, up2_a _ _ _ (by decide), hK105 (1028, fun _ => 0) (by simp)]; rfl
    · show ka_108 1029 = _; rw [eka_108, up2_a _ _ _ (by decide), hK105 (1029, fun _ => 0) (by simp)]; rfl
    · show ka_108 1030 = _; rw [eka_108, up2_a _ _ _ (by decide), hK105 (1030, fun _ => 0) (by simp)]; rfl
    · show ka_108 1031 = _; rw [eka_108, up2_a _ _ _ (by decide), hK105 (1031, fun _ => 0) (by simp)]; rfl
    · show ka_108 1033 = _; rw [eka_108, up2_a _ _ _ (by decide), hK105 (1033, fun _ => 0) (by simp)]; rfl
  · show ka_108 1099 k = _; rw [eka_108, up2_a _ _ _ (by decide), hK105 (1099, fun _ => 0) (by simp)]; rfl
theorem Kok00 : Kok s00 := ⟨fun i _ => rfl, fun w hw => by show (if w < 4 then nI (kA w) else 0) = _; rw [if_pos hw]⟩
theorem Sok00 : Sok s00 := by
  have h1 : nC (s00 0) = 0 := rfl
  have h2 : nP (s00 0) = 0 := rfl
  have h6 : nX (s00 0) = 0 := rfl
  refine ⟨⟨⟨rfl, by rw [h1]; decide⟩, ⟨rfl, by rw [h2]; decide⟩, ⟨rfl, by rw [h6]; decide⟩, fun p hp => by rw [h2] at hp; omega, fun x hx => by rw [h6] at hx; omega⟩, by rw [h2]; decide, Or.inl rfl, ⟨0, by decide, rfl⟩, ⟨0, by decide, rfl⟩, fun k hk => ⟨Or.inl (if_pos hk), 0, by decide, rfl⟩, fun k hk h => absurd h (by show ¬ (0 : Int32) = 2; decide)⟩
end
