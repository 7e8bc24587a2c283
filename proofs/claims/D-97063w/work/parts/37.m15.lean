/-! the model: copies, slots, the check, the deal -/
set_option maxRecDepth 100000
section
variable {l : Launch} {G : GG} {th : Th} {rh : Rh} {ph : Ph} {ka : Ka} {y0 : Nat} {ay : Nat → Nat}
/-- a stretch that lies within a sheet -/
theorem cp_nat {z : Nat} (hz : z ≤ 24) {q m : Int32} (h1 : ¬ q < 0) (h2 : ¬ m < 0) (h3 : q ≤ nI z - m) : ∃ a b : Nat, q = nI a ∧ m = nI b ∧ a + b ≤ z := by
  obtain ⟨a, ha, rfl⟩ := nI_of h1
  obtain ⟨b, hb2, rfl⟩ := nI_of h2
  refine ⟨a, b, rfl, rfl, ?_⟩
  rw [i32_le, Int32.toInt_sub, nI_toInt ha, nI_toInt (show z < 2 ^ 31 by omega), nI_toInt hb2, Int.bmod_eq_of_le (by omega) (by omega)] at h3
  omega
theorem up1_self {f : Ka} {a : Nat} {r : Row} (h : r = f a) : up1 f a r = f := by
  funext j
  by_cases q : j = a
  · subst q; rw [up1_s, h]
  · rw [up1_a _ _ q]
set_option maxHeartbeats 4000000 in
theorem ok_copy (hL : LayM th rh y0 ay) (hS : Sok (sg ka)) (f q t o m : Int32) : Met l yX3_copy (ws_ yX3_copy cX3_copy 7 (some .int)) (RM 3 0 0) (Pc_ G [.ref y0, .int f, .int q, .int t, .int o, .int m] th rh ph ka) (Qi G th rh ph (fun r ka' => r = A_copy (sg ka) f q t o m ∧ Rel (S_copy (sg ka) f q t o m) (sg ka'))) 0 0 (frG G) := by
  refine m_of (by decide) (Nat.le_of_ble_eq_true rfl) ?_
  intro p_ e_ s_ m_ below_ meth_ c_ B hr hnm ls hl hM
  have hx := B.1
  have hb := B.2.1
  have hM := hM
  refine lv_iload_n hx hb dX3_copy_0 rfl (lv_at hl 1 rfl) ?_
  refine k_pb (r_S (As := [.int f]) (rest := []) B hM (ok_isSheet f) cal_X3_isSheet q1710 rfl hl.1 (Nat.le_of_ble_eq_true rfl) dX3_copy_1 ⟨Nat.le_of_ble_eq_true rfl, Nat.le_of_ble_eq_true rfl⟩ ⟨Nat.le_of_ble_eq_true rfl, Nat.le_of_ble_eq_true rfl⟩) hM (fun H locs b1 hM => ?_) (fun H locs b1 hM => ?_)
  · obtain ⟨kf, hkf, rfl⟩ := b1
    have hinkf : inC (nI kf) (4) := (inC_iff (by omega)).mpr ⟨kf, hkf, rfl⟩
    have hclkf : cl (nI kf) = kf := cl_nI (by omega)
    refine lv_if_eq (tgt := 14) hx hb dX3_copy_4 (by decide) (fun cZ => absurd cZ (by decide)) (fun c4 => ?_)
    refine lv_iload_n hx hb dX3_copy_7 rfl (lv_at hl 3 rfl) ?_
    refine k_pb (r_S (As := [.int t]) (rest := []) B hM (ok_isSheet t) cal_X3_isSheet q1710 rfl hl.1 (Nat.le_of_ble_eq_true rfl) dX3_copy_8 ⟨Nat.le_of_ble_eq_true rfl, Nat.le_of_ble_eq_true rfl⟩ ⟨Nat.le_of_ble_eq_true rfl, Nat.le_of_ble_eq_true rfl⟩) hM (fun H locs b8 hM => ?_) (fun H locs b8 hM => ?_)
    · obtain ⟨kt, hkt, rfl⟩ := b8
      have hinkt : inC (nI kt) (4) := (inC_iff (by omega)).mpr ⟨kt, hkt, rfl⟩
      have hclkt : cl (nI kt) = kt := cl_nI (by omega)
      refine lv_if_ne (tgt := 17) hx hb dX3_copy_11 (by decide) (fun c11 => ?_) (fun cZ => absurd cZ (by decide))
      refine lv_aload_n hx hb dX3_copy_17 rfl (lv_at hl 0 rfl) ?_
      refine r_getq B hM 25 hL.1 rfl (by decide) rfl rfl (hL.2 25 _ _ rfl).1 q1407 dX3_copy_18 ?_
      refine lv_iload_n hx hb dX3_copy_21 rfl (lv_at hl 1 rfl) ?_
      refine r_ild B hM kf (hL.2 25 _ _ rfl).2 rfl (by omega) (by decide) dX3_copy_22 ?_
      refine lv_if_lt (tgt := 35) hx hb dX3_copy_23 (by decide) (fun c23 => ?_) (fun c23 => ?_)
      · refine lv_ldc hx hb B.2.2.2.1 (B.ts _ q1713) dX3_copy_35 ?_
        refine r_iret B hr hM dX3_copy_37 ?_
        constructor
        · simp only [A_copy, cpOk, sg0, sg1, sg7, sg25, sg26, sg27, sg28, sg29, sg30, sg31, sg33, sg99, hclkf, hclkt] <;> grind
        · refine Rel.of ?_; simp only [S_copy, cpOk, sg0, sg1, sg7, sg25, sg26, sg27, sg28, sg29, sg30, sg31, sg33, sg99, hclkf, hclkt] <;> grind
      · refine lv_aload_n hx hb dX3_copy_26 rfl (lv_at hl 0 rfl) ?_
        refine r_getq B hM 25 hL.1 rfl (by decide) rfl rfl (hL.2 25 _ _ rfl).1 q1407 dX3_copy_27 ?_
        refine lv_iload_n hx hb dX3_copy_30 rfl (lv_at hl 3 rfl) ?_
        refine r_ild B hM kt (hL.2 25 _ _ rfl).2 rfl (by omega) (by decide) dX3_copy_31 ?_
        refine lv_if_ge (tgt := 38) hx hb dX3_copy_32 (by decide) (fun c32 => ?_) (fun c32 => ?_)
        · refine lv_aload_n hx hb dX3_copy_38 rfl (lv_at hl 0 rfl) ?_
          refine r_getq B hM 25 hL.1 rfl (by decide) rfl rfl (hL.2 25 _ _ rfl).1 q1407 dX3_copy_39 ?_
          refine lv_iload_n hx hb dX3_copy_42 rfl (lv_at hl 1 rfl) ?_
          refine r_ild B hM kf (hL.2 25 _ _ rfl).2 rfl (by omega) (by decide) dX3_copy_43 ?_
          refine lv_aload_n hx hb dX3_copy_44 rfl (lv_at hl 0 rfl) ?_
          refine r_getq B hM 25 hL.1 rfl (by decide) rfl rfl (hL.2 25 _ _ rfl).1 q1407 dX3_copy_45 ?_
          refine lv_iload_n hx hb dX3_copy_48 rfl (lv_at hl 3 rfl) ?_
          refine r_ild B hM kt (hL.2 25 _ _ rfl).2 rfl (by omega) (by decide) dX3_copy_49 ?_
          refine lv_icmp_eq (tgt := 56) hx hb dX3_copy_50 (by decide) (fun c50 => ?_) (fun c50 => ?_)
          · refine lv_iload_n hx hb dX3_copy_56 rfl (lv_at hl 2 rfl) ?_
            refine lv_if_lt (tgt := 97) hx hb dX3_copy_57 (by decide) (fun c57 => ?_) (fun c57 => ?_)
            · refine lv_ldcw hx hb B.2.2.2.1 (B.ts _ q1801) dX3_copy_97 ?_
              refine r_iret B hr hM dX3_copy_100 ?_
              constructor
              · simp only [A_copy, cpOk, sg0, sg1, sg7, sg25, sg26, sg27, sg28, sg29, sg30, sg31, sg33, sg99, hclkf, hclkt] <;> grind
              · refine Rel.of ?_; simp only [S_copy, cpOk, sg0, sg1, sg7, sg25, sg26, sg27, sg28, sg29, sg30, sg31, sg33, sg99, hclkf, hclkt] <;> grind
            · refine lv_iload hx hb dX3_copy_60 (lv_at hl 4 rfl) ?_
              refine lv_if_lt (tgt := 97) hx hb dX3_copy_62 (by decide) (fun c62 => ?_) (fun c62 => ?_)
              · refine lv_ldcw hx hb B.2.2.2.1 (B.ts _ q1801) dX3_copy_97 ?_
                refine r_iret B hr hM dX3_copy_100 ?_
                constructor
                · simp only [A_copy, cpOk, sg0, sg1, sg7, sg25, sg26, sg27, sg28, sg29, sg30, sg31, sg33, sg99, hclkf, hclkt] <;> grind
                · refine Rel.of ?_; simp only [S_copy, cpOk, sg0, sg1, sg7, sg25, sg26, sg27, sg28, sg29, sg30, sg31, sg33, sg99, hclkf, hclkt] <;> grind
              · refine lv_iload hx hb dX3_copy_65 (lv_at hl 5 rfl) ?_
                refine lv_if_lt (tgt := 97) hx hb dX3_copy_67 (by decide) (fun c67 => ?_) (fun c67 => ?_)
                · refine lv_ldcw hx hb B.2.2.2.1 (B.ts _ q1801) dX3_copy_97 ?_
                  refine r_iret B hr hM dX3_copy_100 ?_
                  constructor
                  · simp only [A_copy, cpOk, sg0, sg1, sg7, sg25, sg26, sg27, sg28, sg29, sg30, sg31, sg33, sg99, hclkf, hclkt] <;> grind
                  · refine Rel.of ?_; simp only [S_copy, cpOk, sg0, sg1, sg7, sg25, sg26, sg27, sg28, sg29, sg30, sg31, sg33, sg99, hclkf, hclkt] <;> grind
                · refine lv_iload_n hx hb dX3_copy_70 rfl (lv_at hl 2 rfl) ?_
                  refine lv_aload_n hx hb dX3_copy_71 rfl (lv_at hl 0 rfl) ?_
                  refine r_getq B hM 26 hL.1 rfl (by decide) rfl rfl (hL.2 26 _ _ rfl).1 q1408 dX3_copy_72 ?_
                  refine lv_iload_n hx hb dX3_copy_75 rfl (lv_at hl 1 rfl) ?_
                  refine r_ild B hM kf (hL.2 26 _ _ rfl).2 rfl (by omega) (by decide) dX3_copy_76 ?_
                  refine lv_iload hx hb dX3_copy_77 (lv_at hl 5 rfl) ?_
                  refine lv_isub hx hb dX3_copy_79 ?_
                  refine lv_icmp_gt (tgt := 97) hx hb dX3_copy_80 (by decide) (fun c80 => ?_) (fun c80 => ?_)
                  · refine lv_ldcw hx hb B.2.2.2.1 (B.ts _ q1801) dX3_copy_97 ?_
                    refine r_iret B hr hM dX3_copy_100 ?_
                    constructor
                    · simp only [A_copy, cpOk, sg0, sg1, sg7, sg25, sg26, sg27, sg28, sg29, sg30, sg31, sg33, sg99, hclkf, hclkt] <;> grind
                    · refine Rel.of ?_; simp only [S_copy, cpOk, sg0, sg1, sg7, sg25, sg26, sg27, sg28, sg29, sg30, sg31, sg33, sg99, hclkf, hclkt] <;> grind
                  · refine lv_iload hx hb dX3_copy_83 (lv_at hl 4 rfl) ?_
                    refine lv_aload_n hx hb dX3_copy_85 rfl (lv_at hl 0 rfl) ?_
                    refine r_getq B hM 26 hL.1 rfl (by decide) rfl rfl (hL.2 26 _ _ rfl).1 q1408 dX3_copy_86 ?_
                    refine lv_iload_n hx hb dX3_copy_89 rfl (lv_at hl 3 rfl) ?_
                    refine r_ild B hM kt (hL.2 26 _ _ rfl).2 rfl (by omega) (by decide) dX3_copy_90 ?_
                    refine lv_iload hx hb dX3_copy_91 (lv_at hl 5 rfl) ?_
                    refine lv_isub hx hb dX3_copy_93 ?_
                    refine lv_icmp_le (tgt := 101) hx hb dX3_copy_94 (by decide) (fun c94 => ?_) (fun c94 => ?_)
                    · obtain ⟨zf, hzf24, hzf⟩ := hS.sz hkf
                      obtain ⟨zt, hzt24, hzt⟩ := hS.sz hkt
                      rw [hzf] at c80
                      rw [hzt] at c94
                      obtain ⟨kq, km, rfl, rfl, hqm⟩ := cp_nat hzf24 c57 c67 (i_nlt.mp c80)
                      obtain ⟨ko, km2, rfl, ekm, hom⟩ := cp_nat hzt24 c62 c67 c94
                      have ekm2 : km = km2 := ntEq rfl rfl (by omega) (by omega) ekm
                      subst ekm2
                      have hclkq : cl (nI kq) = kq := cl_nI (by omega)
                      have hclko : cl (nI ko) = ko := cl_nI (by omega)
                      have hclkm : cl (nI km) = km := cl_nI (by omega)
                      have loop2 : ∀ (fu_loop2 : Nat) (i : Nat) (kc : Ka), km - i < fu_loop2 → (i ≤ km) → (∀ j, kc 1027 j = if 24 * kt + ko ≤ j ∧ j < 24 * kt + ko + i then (fun j => ka 1027 (24 * kf + kq + j)) (j - (24 * kt + ko)) else ka 1027 j) → (∀ j, j < km → kc 1032 j = (fun j => ka 1027 (24 * kf + kq + j)) j) → (But [1027, 1032] ka kc) → ∀ (ls : Array Slot) (H : Heap) (locs : List Loc), lv_has ls 7 [(0, .ref y0), (1, .int (nI kf)), (2, .int (nI kq)), (3, .int (nI kt)), (4, .int (nI ko)), (5, .int (nI km)), (6, .int (nI i))] → Md G th rh ph kc H locs → W p_ l e_ (RM 3 0 0) s_ m_ ([.ref y0, .int (nI kf), .int (nI kq), .int (nI kt), .int (nI ko), .int (nI km)].toArray) below_ meth_ c_ H locs 0 0 (MQ below_ (Qi G th rh ph (fun r ka' => r = A_copy (sg ka) (nI kf) (nI kq) (nI kt) (nI ko) (nI km) ∧ Rel (S_copy (sg ka) (nI kf) (nI kq) (nI kt) (nI ko) (nI km)) (sg ka'))) ([.ref y0, .int (nI kf), .int (nI kq), .int (nI kt), .int (nI ko), .int (nI km)].toArray) s_ 0 0 (frG G)) (F0 m_ 141 ls []) := by
                        intro fu_loop2
                        induction fu_loop2 with
                        | zero => intro i kc hfu; exact absurd hfu (Nat.not_lt_zero _)
                        | succ fu_loop2 ih_loop2 =>
                          intro i kc hfu_loop2 hi hrow hmv hbu ls H locs hl hM
                          refine lv_iload hx hb dX3_copy_141 (lv_at hl 6 rfl) ?_
                          refine lv_iload hx hb dX3_copy_143 (lv_at hl 5 rfl) ?_
                          refine lv_icmp_ge (tgt := 176) hx hb dX3_copy_145 (by decide) (fun c145 => ?_) (fun c145 => ?_)
                          · have n145 : km ≤ i := ntLe rfl rfl (by omega) (by omega) c145
                            refine lv_iload hx hb dX3_copy_176 (lv_at hl 5 rfl) ?_
                            refine r_iret B hr hM dX3_copy_178 ?_
                            have him : i = km := by omega
                            subst him
                            have hok : cpOk (sg ka) (nI kf) (nI kq) (nI kt) (nI ko) (nI i) := ⟨hinkf, hinkt, by rw [hclkf]; exact c23, by rw [hclkt]; exact i_nlt.mpr c32, by rw [hclkf, hclkt]; exact c50, by rw [hclkf, hclkt]; show ¬ (_ ∨ _ ∨ _ ∨ ka 1026 kf - nI i < nI kq ∨ ka 1026 kt - nI i < nI ko); rw [hzf, hzt]; exact fun q => q.elim c57 (fun q => q.elim c62 (fun q => q.elim c67 (fun q => q.elim c80 (i_nlt.mpr c94))))⟩
                            constructor
                            · show _ = A_copy (sg ka) (nI kf) (nI kq) (nI kt) (nI ko) (nI i); unfold A_copy; rw [if_neg (fun q => q.elim (fun w => w hinkf) (fun w => w hinkt)), if_neg (fun q => q.elim hok.2.2.1 hok.2.2.2.1), if_neg (fun q => q hok.2.2.2.2.1), if_neg hok.2.2.2.2.2]
                            · rw [S_copy, if_pos hok, hclkf, hclkq, hclkt, hclko, hclkm]; exact Rel.row hbu (funext hrow) (by decide) (by decide)
                          · have n145 : i < km := ntNle rfl rfl (by omega) (by omega) c145
                            refine lv_aload_n hx hb dX3_copy_148 rfl (lv_at hl 0 rfl) ?_
                            refine r_getq B hM 27 hL.1 rfl (by decide) rfl rfl (hL.2 27 _ _ rfl).1 q1409 dX3_copy_149 ?_
                            refine lv_bipush (v := 24) hx hb dX3_copy_152 (by decide) ?_
                            refine lv_iload_n hx hb dX3_copy_154 rfl (lv_at hl 3 rfl) ?_
                            refine lv_imul hx hb dX3_copy_155 ?_
                            refine lv_iload hx hb dX3_copy_156 (lv_at hl 4 rfl) ?_
                            refine lv_iadd hx hb dX3_copy_158 ?_
                            refine lv_iload hx hb dX3_copy_159 (lv_at hl 6 rfl) ?_
                            refine lv_iadd hx hb dX3_copy_161 ?_
                            refine lv_aload_n hx hb dX3_copy_162 rfl (lv_at hl 0 rfl) ?_
                            refine r_getq B hM 32 hL.1 rfl (by decide) rfl rfl (hL.2 32 _ _ rfl).1 q1414 dX3_copy_163 ?_
                            refine lv_iload hx hb dX3_copy_166 (lv_at hl 6 rfl) ?_
                            refine r_ild B hM i (hL.2 32 _ _ rfl).2 rfl (by omega) (by decide) dX3_copy_168 ?_
                            refine r_topv (v := (fun j => ka 1027 (24 * kf + kq + j)) i) (hmv _ (by omega)) ?_
                            refine r_ist B hM (24 * kt + ko + i) (hL.2 27 _ _ rfl).2 (by simp only [nA, nMu, nL]) (by omega) (by decide) dX3_copy_169 (fun ka_1 H locs eka_1 hM => ?_)
                            refine lv_iinc (v := nI (i + 1)) (lv' := [(6, .int (nI (i + 1))), (0, .ref y0), (1, .int (nI kf)), (2, .int (nI kq)), (3, .int (nI kt)), (4, .int (nI ko)), (5, .int (nI km))]) hx hb dX3_copy_170 hl (k := 6) rfl (nI_1 _) (by decide) rfl (fun ls hl => ?_)
                            refine lv_goto (tgt := 141) hx hb dX3_copy_173 (by decide) ?_
                            exact ih_loop2 (i + 1) ka_1 (by omega) (by omega) (seg_step (f := (fun j => ka 1027 (24 * kf + kq + j))) eka_1 hrow) (fun j hj => by rw [eka_1, up2_a _ _ _ (by decide)]; exact hmv j hj) (But.trans hbu (by rw [eka_1]; exact But.up (by decide))) _ _ _ (lv_sub hl [1, 2, 3, 4, 5, 6, 0] rfl) hM
                      have loop1 : ∀ (fu_loop1 : Nat) (i : Nat) (kb : Ka), km - i < fu_loop1 → (i ≤ km) → (∀ j, j < i → kb 1032 j = (fun j => ka 1027 (24 * kf + kq + j)) j) → (But [1032] ka kb) → ∀ (ls : Array Slot) (H : Heap) (locs : List Loc), lv_has ls 7 [(0, .ref y0), (1, .int (nI kf)), (2, .int (nI kq)), (3, .int (nI kt)), (4, .int (nI ko)), (5, .int (nI km)), (6, .int (nI i))] → Md G th rh ph kb H locs → W p_ l e_ (RM 3 0 0) s_ m_ ([.ref y0, .int (nI kf), .int (nI kq), .int (nI kt), .int (nI ko), .int (nI km)].toArray) below_ meth_ c_ H locs 0 0 (MQ below_ (Qi G th rh ph (fun r ka' => r = A_copy (sg ka) (nI kf) (nI kq) (nI kt) (nI ko) (nI km) ∧ Rel (S_copy (sg ka) (nI kf) (nI kq) (nI kt) (nI ko) (nI km)) (sg ka'))) ([.ref y0, .int (nI kf), .int (nI kq), .int (nI kt), .int (nI ko), .int (nI km)].toArray) s_ 0 0 (frG G)) (F0 m_ 104 ls []) := by
                        intro fu_loop1
                        induction fu_loop1 with
                        | zero => intro i kb hfu; exact absurd hfu (Nat.not_lt_zero _)
                        | succ fu_loop1 ih_loop1 =>
                          intro i kb hfu_loop1 hi hmv hbu ls H locs hl hM
                          refine lv_iload hx hb dX3_copy_104 (lv_at hl 6 rfl) ?_
                          refine lv_iload hx hb dX3_copy_106 (lv_at hl 5 rfl) ?_
                          refine lv_icmp_ge (tgt := 138) hx hb dX3_copy_108 (by decide) (fun c108 => ?_) (fun c108 => ?_)
                          · have n108 : km ≤ i := ntLe rfl rfl (by omega) (by omega) c108
                            refine lv_iconst (v := 0) hx hb dX3_copy_138 (by decide) ?_
                            refine lv_istore (lv' := [(6, .int 0), (0, .ref y0), (1, .int (nI kf)), (2, .int (nI kq)), (3, .int (nI kt)), (4, .int (nI ko)), (5, .int (nI km))]) hx hb dX3_copy_139 hl (by decide) rfl (fun ls hl => ?_)
                            exact loop2 (km + 1) 0 kb (by omega) (Nat.zero_le _) (fun j => by rw [if_neg (by omega), hbu 1027 (by decide)]) (fun j hj => hmv j (by omega)) (But.mono hbu (by decide)) _ _ _ (lv_sub hl [1, 2, 3, 4, 5, 6, 0] rfl) hM
                          · have n108 : i < km := ntNle rfl rfl (by omega) (by omega) c108
                            refine lv_aload_n hx hb dX3_copy_111 rfl (lv_at hl 0 rfl) ?_
                            refine r_getq B hM 32 hL.1 rfl (by decide) rfl rfl (hL.2 32 _ _ rfl).1 q1414 dX3_copy_112 ?_
                            refine lv_iload hx hb dX3_copy_115 (lv_at hl 6 rfl) ?_
                            refine lv_aload_n hx hb dX3_copy_117 rfl (lv_at hl 0 rfl) ?_
                            refine r_getq B hM 27 hL.1 rfl (by decide) rfl rfl (hL.2 27 _ _ rfl).1 q1409 dX3_copy_118 ?_
                            refine lv_bipush (v := 24) hx hb dX3_copy_121 (by decide) ?_
                            refine lv_iload_n hx hb dX3_copy_123 rfl (lv_at hl 1 rfl) ?_
                            refine lv_imul hx hb dX3_copy_124 ?_
                            refine lv_iload_n hx hb dX3_copy_125 rfl (lv_at hl 2 rfl) ?_
                            refine lv_iadd hx hb dX3_copy_126 ?_
                            refine lv_iload hx hb dX3_copy_127 (lv_at hl 6 rfl) ?_
                            refine lv_iadd hx hb dX3_copy_129 ?_
                            refine r_ild B hM (24 * kf + kq + i) (hL.2 27 _ _ rfl).2 (by simp only [nA, nMu, nL]) (by omega) (by decide) dX3_copy_130 ?_
                            refine r_topv (v := ka 1027 (24 * kf + kq + i)) (congrFun (hbu 1027 (by decide)) _) ?_
                            refine r_ist B hM i (hL.2 32 _ _ rfl).2 rfl (by omega) (by decide) dX3_copy_131 (fun ka_2 H locs eka_2 hM => ?_)
                            refine lv_iinc (v := nI (i + 1)) (lv' := [(6, .int (nI (i + 1))), (0, .ref y0), (1, .int (nI kf)), (2, .int (nI kq)), (3, .int (nI kt)), (4, .int (nI ko)), (5, .int (nI km))]) hx hb dX3_copy_132 hl (k := 6) rfl (nI_1 _) (by decide) rfl (fun ls hl => ?_)
                            refine lv_goto (tgt := 104) hx hb dX3_copy_135 (by decide) ?_
                            exact ih_loop1 (i + 1) ka_2 (by omega) (by omega) (fw_step (f := (fun j => ka 1027 (24 * kf + kq + j))) eka_2 hmv) (But.trans hbu (by rw [eka_2]; exact But.up (by decide))) _ _ _ (lv_sub hl [1, 2, 3, 4, 5, 6, 0] rfl) hM
                      refine lv_iconst (v := 0) hx hb dX3_copy_101 (by decide) ?_
                      refine lv_istore (lv' := [(6, .int 0), (0, .ref y0), (1, .int (nI kf)), (2, .int (nI kq)), (3, .int (nI kt)), (4, .int (nI ko)), (5, .int (nI km))]) hx hb dX3_copy_102 hl (by decide) rfl (fun ls hl => ?_)
                      exact loop1 (km + 1) 0 ka (by omega) (Nat.zero_le _) (fun j hj => absurd hj (Nat.not_lt_zero _)) But.refl _ _ _ (lv_sub hl [1, 2, 3, 4, 5, 6, 0] rfl) hM
                    · refine lv_ldcw hx hb B.2.2.2.1 (B.ts _ q1801) dX3_copy_97 ?_
                      refine r_iret B hr hM dX3_copy_100 ?_
                      constructor
                      · simp only [A_copy, cpOk, sg0, sg1, sg7, sg25, sg26, sg27, sg28, sg29, sg30, sg31, sg33, sg99, hclkf, hclkt] <;> grind
                      · refine Rel.of ?_; simp only [S_copy, cpOk, sg0, sg1, sg7, sg25, sg26, sg27, sg28, sg29, sg30, sg31, sg33, sg99, hclkf, hclkt] <;> grind
          · refine lv_ldc hx hb B.2.2.2.1 (B.ts _ q1563) dX3_copy_53 ?_
            refine r_iret B hr hM dX3_copy_55 ?_
            constructor
            · simp only [A_copy, cpOk, sg0, sg1, sg7, sg25, sg26, sg27, sg28, sg29, sg30, sg31, sg33, sg99, hclkf, hclkt] <;> grind
            · refine Rel.of ?_; simp only [S_copy, cpOk, sg0, sg1, sg7, sg25, sg26, sg27, sg28, sg29, sg30, sg31, sg33, sg99, hclkf, hclkt] <;> grind
        · refine lv_ldc hx hb B.2.2.2.1 (B.ts _ q1713) dX3_copy_35 ?_
          refine r_iret B hr hM dX3_copy_37 ?_
          constructor
          · simp only [A_copy, cpOk, sg0, sg1, sg7, sg25, sg26, sg27, sg28, sg29, sg30, sg31, sg33, sg99, hclkf, hclkt] <;> grind
          · refine Rel.of ?_; simp only [S_copy, cpOk, sg0, sg1, sg7, sg25, sg26, sg27, sg28, sg29, sg30, sg31, sg33, sg99, hclkf, hclkt] <;> grind
    · refine lv_if_ne (tgt := 17) hx hb dX3_copy_11 (by decide) (fun cZ => absurd (by decide) cZ) (fun c11 => ?_)
      refine lv_ldc hx hb B.2.2.2.1 (B.ts _ q1496) dX3_copy_14 ?_
      refine r_iret B hr hM dX3_copy_16 ?_
      have ib8 := mt (inC_iff (n := 4) (by omega)).mp b8
      constructor
      · simp only [A_copy, cpOk, sg0, sg1, sg7, sg25, sg26, sg27, sg28, sg29, sg30, sg31, sg33, sg99, hclkf] <;> grind
      · refine Rel.of ?_; simp only [S_copy, cpOk, sg0, sg1, sg7, sg25, sg26, sg27, sg28, sg29, sg30, sg31, sg33, sg99, hclkf] <;> grind
  · refine lv_if_eq (tgt := 14) hx hb dX3_copy_4 (by decide) (fun c4 => ?_) (fun cZ => absurd (by decide) cZ)
    refine lv_ldc hx hb B.2.2.2.1 (B.ts _ q1496) dX3_copy_14 ?_
    refine r_iret B hr hM dX3_copy_16 ?_
    have ib1 := mt (inC_iff (n := 4) (by omega)).mp b1
    constructor
    · simp only [A_copy, cpOk, sg0, sg1, sg7, sg25, sg26, sg27, sg28, sg29, sg30, sg31, sg33, sg99] <;> grind
    · refine Rel.of ?_; simp only [S_copy, cpOk, sg0, sg1, sg7, sg25, sg26, sg27, sg28, sg29, sg30, sg31, sg33, sg99] <;> grind
set_option maxHeartbeats 4000000 in
theorem ok_lay (hL : LayM th rh y0 ay) (hS : Sok (sg ka)) (sl g k : Int32) : Met l yX3_lay (ws_ yX3_lay cX3_lay 6 (some .int)) (RM 3 0 0) (Pc_ G [.ref y0, .int sl, .int g, .int k] th rh ph ka) (Qi G th rh ph (fun r ka' => r = A_lay (sg ka) sl g k ∧ Rel (S_lay (sg ka) sl g k) (sg ka'))) 0 0 (frG G) := by
  refine m_of (by decide) (Nat.le_of_ble_eq_true rfl) ?_
  intro p_ e_ s_ m_ below_ meth_ c_ B hr hnm ls hl hM
  have hx := B.1
  have hb := B.2.1
  have hM := hM
  have hR := hS.r
  have h8 := hR.1.2
  have h13 := hR.2.1.2
  have h14 := hR.2.2.1.2
  refine lv_iload_n hx hb dX3_lay_0 rfl (lv_at hl 1 rfl) ?_
  refine k_pb (r_S (As := [.int sl]) (rest := []) B hM (ok_isSlot sl) cal_X3_isSlot q1820 rfl hl.1 (Nat.le_of_ble_eq_true rfl) dX3_lay_1 ⟨Nat.le_of_ble_eq_true rfl, Nat.le_of_ble_eq_true rfl⟩ ⟨Nat.le_of_ble_eq_true rfl, Nat.le_of_ble_eq_true rfl⟩) hM (fun H locs b1 hM => ?_) (fun H locs b1 hM => ?_)
  · obtain ⟨ksl, hksl, rfl⟩ := b1
    have hinksl : inC (nI ksl) (5) := (inC_iff (by omega)).mpr ⟨ksl, hksl, rfl⟩
    have hclksl : cl (nI ksl) = ksl := cl_nI (by omega)
    refine lv_if_eq (tgt := 41) hx hb dX3_lay_4 (by decide) (fun cZ => absurd cZ (by decide)) (fun c4 => ?_)
    refine lv_iload_n hx hb dX3_lay_7 rfl (lv_at hl 2 rfl) ?_
    refine lv_iconst (v := 0) hx hb dX3_lay_8 (by decide) ?_
    refine lv_iconst (v := 3) hx hb dX3_lay_9 (by decide) ?_
    refine k_pb (r_S (As := [.int g, .int 0, .int 3]) (rest := []) B hM (ok_in g 0 3) cal_X3_in q1493 rfl hl.1 (Nat.le_of_ble_eq_true rfl) dX3_lay_10 ⟨Nat.le_of_ble_eq_true rfl, Nat.le_of_ble_eq_true rfl⟩ ⟨Nat.le_of_ble_eq_true rfl, Nat.le_of_ble_eq_true rfl⟩) hM (fun H locs b10 hM => ?_) (fun H locs b10 hM => ?_)
    · refine lv_if_eq (tgt := 41) hx hb dX3_lay_13 (by decide) (fun cZ => absurd cZ (by decide)) (fun c13 => ?_)
      rcases in0_3 b10 with rfl | rfl | rfl | rfl
      · refine lv_iload_n hx hb dX3_lay_16 rfl (lv_at hl 2 rfl) ?_
        refine lv_iconst (v := 1) hx hb dX3_lay_17 (by decide) ?_
        refine lv_icmp_ne (tgt := 29) hx hb dX3_lay_18 (by decide) (fun c18 => ?_) (fun cZ => absurd cZ (by decide))
        refine lv_iload_n hx hb dX3_lay_29 rfl (lv_at hl 2 rfl) ?_
        refine lv_iconst (v := 2) hx hb dX3_lay_30 (by decide) ?_
        refine lv_icmp_ne (tgt := 44) hx hb dX3_lay_31 (by decide) (fun c31 => ?_) (fun cZ => absurd cZ (by decide))
        refine lv_iload_n hx hb dX3_lay_44 rfl (lv_at hl 2 rfl) ?_
        refine lv_iconst (v := 2) hx hb dX3_lay_45 (by decide) ?_
        refine lv_icmp_ne (tgt := 61) hx hb dX3_lay_46 (by decide) (fun c46 => ?_) (fun cZ => absurd cZ (by decide))
        refine lv_aload_n hx hb dX3_lay_61 rfl (lv_at hl 0 rfl) ?_
        refine r_getq B hM 28 hL.1 rfl (by decide) rfl rfl (hL.2 28 _ _ rfl).1 q1410 dX3_lay_62 ?_
        refine lv_iload_n hx hb dX3_lay_65 rfl (lv_at hl 1 rfl) ?_
        refine r_ild B hM ksl (hL.2 28 _ _ rfl).2 rfl (by omega) (by decide) dX3_lay_66 ?_
        refine lv_topi (fun v_1 ev_1 => ?_)
        refine lv_istore (lv' := [(4, .int v_1), (0, .ref y0), (1, .int (nI ksl)), (2, .int 0), (3, .int k)]) hx hb dX3_lay_67 hl (by decide) rfl (fun ls hl => ?_)
        refine lv_aload_n hx hb dX3_lay_69 rfl (lv_at hl 1 rfl) ?_
        refine r_getq B hM 28 hL.1 rfl (by decide) rfl rfl (hL.2 28 _ _ rfl).1 q1410 dX3_lay_70 ?_
        refine lv_iload_n hx hb dX3_lay_73 rfl (lv_at hl 2 rfl) ?_
        refine lv_iload_n hx hb dX3_lay_74 rfl (lv_at hl 3 rfl) ?_
        refine r_ist B hM ksl (hL.2 28 _ _ rfl).2 rfl (by omega) (by decide) dX3_lay_75 (fun ka_2 H locs eka_2 hM => ?_)
        refine lv_aload_n hx hb dX3_lay_76 rfl (lv_at hl 1 rfl) ?_
        refine r_getq B hM 29 hL.1 rfl (by decide) rfl rfl (hL.2 29 _ _ rfl).1 q1411 dX3_lay_77 ?_
        refine lv_iload_n hx hb dX3_lay_80 rfl (lv_at hl 2 rfl) ?_
        refine lv_iload_n hx hb dX3_lay_81 rfl (lv_at hl 3 rfl) ?_
        refine lv_iconst (v := 1) hx hb dX3_lay_82 (by decide) ?_
        refine lv_icmp_ne (tgt := 95) hx hb dX3_lay_83 (by decide) (fun c83 => ?_) (fun cZ => absurd cZ (by decide))
        refine lv_iload_n hx hb dX3_lay_95 rfl (lv_at hl 3 rfl) ?_
        refine lv_iconst (v := 2) hx hb dX3_lay_96 (by decide) ?_
        refine lv_icmp_ne (tgt := 109) hx hb dX3_lay_97 (by decide) (fun c97 => ?_) (fun cZ => absurd cZ (by decide))
        refine lv_iload_n hx hb dX3_lay_109 rfl (lv_at hl 4 rfl) ?_
        refine r_ist B hM ksl (hL.2 29 _ _ rfl).2 rfl (by omega) (by decide) dX3_lay_110 (fun ka_3 H locs eka_3 hM => ?_)
        refine lv_aload_n hx hb dX3_lay_111 rfl (lv_at hl 1 rfl) ?_
        refine r_getq B hM 30 hL.1 rfl (by decide) rfl rfl (hL.2 30 _ _ rfl).1 q1412 dX3_lay_112 ?_
        refine lv_iload_n hx hb dX3_lay_115 rfl (lv_at hl 2 rfl) ?_
        refine lv_iload_n hx hb dX3_lay_116 rfl (lv_at hl 3 rfl) ?_
        refine lv_iconst (v := 1) hx hb dX3_lay_117 (by decide) ?_
        refine lv_icmp_ne (tgt := 129) hx hb dX3_lay_118 (by decide) (fun c118 => ?_) (fun cZ => absurd cZ (by decide))
        refine lv_iconst (v := 0) hx hb dX3_lay_129 (by decide) ?_
        refine r_ist B hM ksl (hL.2 30 _ _ rfl).2 rfl (by omega) (by decide) dX3_lay_130 (fun ka_4 H locs eka_4 hM => ?_)
        refine lv_iconst (v := 0) hx hb dX3_lay_131 (by decide) ?_
        refine lv_istore (lv' := [(5, .int 0), (4, .int v_1), (0, .ref y0), (1, .int (nI ksl)), (2, .int 0), (3, .int k)]) hx hb dX3_lay_132 hl (by decide) rfl (fun ls hl => ?_)
        refine lv_iload hx hb dX3_lay_134 (lv_at hl 0 rfl) ?_
        refine lv_bipush (v := 24) hx hb dX3_lay_136 (by decide) ?_
        refine lv_icmp_ge (tgt := 176) hx hb dX3_lay_138 (by decide) (fun cZ => absurd cZ (by decide)) (fun c138 => ?_)
        refine lv_iload_n hx hb dX3_lay_141 rfl (lv_at hl 4 rfl) ?_
        refine lv_iconst (v := 2) hx hb dX3_lay_142 (by decide) ?_
        refine lv_icmp_ne (tgt := 176) hx hb dX3_lay_143 (by decide) (fun c143 => ?_) (fun cZ => absurd cZ (by decide))
        refine lv_iload hx hb dX3_lay_176 (lv_at hl 1 rfl) ?_
        refine r_iret B hr hM dX3_lay_178 ?_
        have hg : ¬ badL (sg ka) (nI ksl) 0 k := by simp only [badL, sg0, sg1, sg7, sg25, sg26, sg27, sg28, sg29, sg30, sg31, sg33, sg99]; grind
        have hg2 : ¬ ((0 : Int32) = 2 ∧ sg ka 25 (cl k) < 0) := fun q => absurd q.1 (by decide)
        constructor
        · show _ = A_lay (sg ka) (nI ksl) 0 k; unfold A_lay; rw [if_neg hg, if_neg hg2, hclksl]; exact ev_1
        · refine Rel.of ?_; rw [S_lay, if_neg hg, if_neg hg2]; rw [eka_4, eka_3, eka_2, sg_up2 _ 30, sg_up2 _ 29, sg_up2 _ 28]; rw [hclksl]; refine (up1_self (funext fun j => ?_)).trans ?_
          · rw [if_neg (fun q => absurd q.1 (by decide)), up2_a _ _ _ (by decide), up2_a _ _ _ (by decide), up2_a _ _ _ (by decide)]
          · rw [if_neg (by decide), if_neg (by decide), if_neg (by decide)]
      · refine lv_iload_n hx hb dX3_lay_16 rfl (lv_at hl 2 rfl) ?_
        refine lv_iconst (v := 1) hx hb dX3_lay_17 (by decide) ?_
        refine lv_icmp_ne (tgt := 29) hx hb dX3_lay_18 (by decide) (fun cZ => absurd (by decide) cZ) (fun c18 => ?_)
        refine lv_aload_n hx hb dX3_lay_21 rfl (lv_at hl 0 rfl) ?_
        refine lv_iload_n hx hb dX3_lay_22 rfl (lv_at hl 3 rfl) ?_
        refine k_pb (r_V (As := [.int k]) (rest := []) B hM hL.1 rfl rfl (ok_isCellar hL hR k) cal_X3_isCellar q1506 rfl hl.1 (Nat.le_of_ble_eq_true rfl) dX3_lay_23 ⟨Nat.le_of_ble_eq_true rfl, Nat.le_of_ble_eq_true rfl⟩ ⟨Nat.le_of_ble_eq_true rfl, Nat.le_of_ble_eq_true rfl⟩) hM (fun H locs b23 hM => ?_) (fun H locs b23 hM => ?_)
        · obtain ⟨kk, hkk, rfl⟩ := b23
          have hinkk : inC (nI kk) (nC (ka 1000)) := (inC_iff (by omega)).mpr ⟨kk, hkk, rfl⟩
          have hclkk : cl (nI kk) = kk := cl_nI (by omega)
          refine lv_if_eq (tgt := 41) hx hb dX3_lay_26 (by decide) (fun cZ => absurd cZ (by decide)) (fun c26 => ?_)
          refine lv_iload_n hx hb dX3_lay_29 rfl (lv_at hl 2 rfl) ?_
          refine lv_iconst (v := 2) hx hb dX3_lay_30 (by decide) ?_
          refine lv_icmp_ne (tgt := 44) hx hb dX3_lay_31 (by decide) (fun c31 => ?_) (fun cZ => absurd cZ (by decide))
          refine lv_iload_n hx hb dX3_lay_44 rfl (lv_at hl 2 rfl) ?_
          refine lv_iconst (v := 2) hx hb dX3_lay_45 (by decide) ?_
          refine lv_icmp_ne (tgt := 61) hx hb dX3_lay_46 (by decide) (fun c46 => ?_) (fun cZ => absurd cZ (by decide))
          refine lv_aload_n hx hb dX3_lay_61 rfl (lv_at hl 0 rfl) ?_
          refine r_getq B hM 28 hL.1 rfl (by decide) rfl rfl (hL.2 28 _ _ rfl).1 q1410 dX3_lay_62 ?_
          refine lv_iload_n hx hb dX3_lay_65 rfl (lv_at hl 1 rfl) ?_
          refine r_ild B hM ksl (hL.2 28 _ _ rfl).2 rfl (by omega) (by decide) dX3_lay_66 ?_
          refine lv_topi (fun v_5 ev_5 => ?_)
          refine lv_istore (lv' := [(4, .int v_5), (0, .ref y0), (1, .int (nI ksl)), (2, .int 1), (3, .int (nI kk))]) hx hb dX3_lay_67 hl (by decide) rfl (fun ls hl => ?_)
          refine lv_aload_n hx hb dX3_lay_69 rfl (lv_at hl 1 rfl) ?_
          refine r_getq B hM 28 hL.1 rfl (by decide) rfl rfl (hL.2 28 _ _ rfl).1 q1410 dX3_lay_70 ?_
          refine lv_iload_n hx hb dX3_lay_73 rfl (lv_at hl 2 rfl) ?_
          refine lv_iload_n hx hb dX3_lay_74 rfl (lv_at hl 3 rfl) ?_
          refine r_ist B hM ksl (hL.2 28 _ _ rfl).2 rfl (by omega) (by decide) dX3_lay_75 (fun ka_6 H locs eka_6 hM => ?_)
          refine lv_aload_n hx hb dX3_lay_76 rfl (lv_at hl 1 rfl) ?_
          refine r_getq B hM 29 hL.1 rfl (by decide) rfl rfl (hL.2 29 _ _ rfl).1 q1411 dX3_lay_77 ?_
          refine lv_iload_n hx hb dX3_lay_80 rfl (lv_at hl 2 rfl) ?_
          refine lv_iload_n hx hb dX3_lay_81 rfl (lv_at hl 3 rfl) ?_
          refine lv_iconst (v := 1) hx hb dX3_lay_82 (by decide) ?_
          refine lv_icmp_ne (tgt := 95) hx hb dX3_lay_83 (by decide) (fun cZ => absurd (by decide) cZ) (fun c83 => ?_)
          refine lv_aload_n hx hb dX3_lay_86 rfl (lv_at hl 1 rfl) ?_
          refine lv_iload_n hx hb dX3_lay_87 rfl (lv_at hl 4 rfl) ?_
          refine lv_iconst (v := 0) hx hb dX3_lay_88 (by decide) ?_
          refine k_pe (v := ka_6 1000 (7 + 6 * kk + 0)) (r_V (As := [.int (nI kk), .int 0]) (rest := [.int (nI ksl), .ref (ay 29)]) B hM hL.1 rfl rfl (ok_of hL (c := kk) (w := 0) (by omega) (by omega)) cal_X3_of q1510 rfl hl.1 (Nat.le_of_ble_eq_true rfl) dX3_lay_89 ⟨Nat.le_of_ble_eq_true rfl, Nat.le_of_ble_eq_true rfl⟩ ⟨Nat.le_of_ble_eq_true rfl, Nat.le_of_ble_eq_true rfl⟩) hM (fun H locs hM => ?_)
          refine r_topv (v := ka 1000 (7 + 6 * kk + 0)) (by rw [eka_6, up2_a _ _ _ (by decide)]) ?_
          refine lv_goto (tgt := 110) hx hb dX3_lay_92 (by decide) ?_
          refine r_ist B hM ksl (hL.2 29 _ _ rfl).2 rfl (by omega) (by decide) dX3_lay_110 (fun ka_7 H locs eka_7 hM => ?_)
          refine lv_aload_n hx hb dX3_lay_111 rfl (lv_at hl 1 rfl) ?_
          refine r_getq B hM 30 hL.1 rfl (by decide) rfl rfl (hL.2 30 _ _ rfl).1 q1412 dX3_lay_112 ?_
          refine lv_iload_n hx hb dX3_lay_115 rfl (lv_at hl 2 rfl) ?_
          refine lv_iload_n hx hb dX3_lay_116 rfl (lv_at hl 3 rfl) ?_
          refine lv_iconst (v := 1) hx hb dX3_lay_117 (by decide) ?_
          refine lv_icmp_ne (tgt := 129) hx hb dX3_lay_118 (by decide) (fun cZ => absurd (by decide) cZ) (fun c118 => ?_)
          refine lv_aload_n hx hb dX3_lay_121 rfl (lv_at hl 1 rfl) ?_
          refine lv_iload_n hx hb dX3_lay_122 rfl (lv_at hl 4 rfl) ?_
          refine k_pe (v := worthT (ka_7 1000) kk) (r_V (As := [.int (nI kk)]) (rest := [.int (nI ksl), .ref (ay 30)]) B hM hL.1 rfl rfl (ok_worthOf hL (c := kk) (by omega)) cal_X3_worthOf q1544 rfl hl.1 (Nat.le_of_ble_eq_true rfl) dX3_lay_123 ⟨Nat.le_of_ble_eq_true rfl, Nat.le_of_ble_eq_true rfl⟩ ⟨Nat.le_of_ble_eq_true rfl, Nat.le_of_ble_eq_true rfl⟩) hM (fun H locs hM => ?_)
          refine r_topv (v := worthT (ka 1000) kk) (by rw [eka_7, up2_a _ _ _ (by decide), eka_6, up2_a _ _ _ (by decide)]) ?_
          refine lv_goto (tgt := 130) hx hb dX3_lay_126 (by decide) ?_
          refine r_ist B hM ksl (hL.2 30 _ _ rfl).2 rfl (by omega) (by decide) dX3_lay_130 (fun ka_8 H locs eka_8 hM => ?_)
          refine lv_iconst (v := 0) hx hb dX3_lay_131 (by decide) ?_
          refine lv_istore (lv' := [(5, .int 0), (4, .int v_5), (0, .ref y0), (1, .int (nI ksl)), (2, .int 1), (3, .int (nI kk))]) hx hb dX3_lay_132 hl (by decide) rfl (fun ls hl => ?_)
          refine lv_iload hx hb dX3_lay_134 (lv_at hl 0 rfl) ?_
          refine lv_bipush (v := 24) hx hb dX3_lay_136 (by decide) ?_
          refine lv_icmp_ge (tgt := 176) hx hb dX3_lay_138 (by decide) (fun cZ => absurd cZ (by decide)) (fun c138 => ?_)
          refine lv_iload_n hx hb dX3_lay_141 rfl (lv_at hl 4 rfl) ?_
          refine lv_iconst (v := 2) hx hb dX3_lay_142 (by decide) ?_
          refine lv_icmp_ne (tgt := 176) hx hb dX3_lay_143 (by decide) (fun c143 => ?_) (fun cZ => absurd cZ (by decide))
          refine lv_iload hx hb dX3_lay_176 (lv_at hl 1 rfl) ?_
          refine r_iret B hr hM dX3_lay_178 ?_
          have hg : ¬ badL (sg ka) (nI ksl) 1 (nI kk) := by simp only [badL, sg0, sg1, sg7, sg25, sg26, sg27, sg28, sg29, sg30, sg31, sg33, sg99]; grind
          have hg2 : ¬ ((1 : Int32) = 2 ∧ sg ka 25 (cl (nI kk)) < 0) := fun q => absurd q.1 (by decide)
          constructor
          · show _ = A_lay (sg ka) (nI ksl) 1 (nI kk); unfold A_lay; rw [if_neg hg, if_neg hg2, hclksl]; exact ev_5
          · refine Rel.of ?_; rw [S_lay, if_neg hg, if_neg hg2]; rw [eka_8, eka_7, eka_6, sg_up2 _ 30, sg_up2 _ 29, sg_up2 _ 28]; rw [hclksl, hclkk]; refine (up1_self (funext fun j => ?_)).trans ?_
            · rw [if_neg (fun q => absurd q.1 (by decide)), up2_a _ _ _ (by decide), up2_a _ _ _ (by decide), up2_a _ _ _ (by decide)]
            · rw [if_pos rfl, if_pos rfl]; rfl
        · refine lv_if_eq (tgt := 41) hx hb dX3_lay_26 (by decide) (fun c26 => ?_) (fun cZ => absurd (by decide) cZ)
          refine lv_ldc hx hb B.2.2.2.1 (B.ts _ q1496) dX3_lay_41 ?_
          refine r_iret B hr hM dX3_lay_43 ?_
          have ib23 := mt (inC_iff (n := nC (ka 1000)) (by omega)).mp b23
          constructor
          · simp only [A_lay, badL, sg0, sg1, sg7, sg25, sg26, sg27, sg28, sg29, sg30, sg31, sg33, sg99, hclksl] <;> grind
          · refine Rel.of ?_; simp only [S_lay, badL, sg0, sg1, sg7, sg25, sg26, sg27, sg28, sg29, sg30, sg31, sg33, sg99, hclksl] <;> grind
      · refine lv_iload_n hx hb dX3_lay_16 rfl (lv_at hl 2 rfl) ?_
        refine lv_iconst (v := 1) hx hb dX3_lay_17 (by decide) ?_
        refine lv_icmp_ne (tgt := 29) hx hb dX3_lay_18 (by decide) (fun c18 => ?_) (fun cZ => absurd cZ (by decide))
        refine lv_iload_n hx hb dX3_lay_29 rfl (lv_at hl 2 rfl) ?_
        refine lv_iconst (v := 2) hx hb dX3_lay_30 (by decide) ?_
        refine lv_icmp_ne (tgt := 44) hx hb dX3_lay_31 (by decide) (fun cZ => absurd (by decide) cZ) (fun c31 => ?_)
        refine lv_iload_n hx hb dX3_lay_34 rfl (lv_at hl 3 rfl) ?_
        refine k_pb (r_S (As := [.int k]) (rest := []) B hM (ok_isSheet k) cal_X3_isSheet q1710 rfl hl.1 (Nat.le_of_ble_eq_true rfl) dX3_lay_35 ⟨Nat.le_of_ble_eq_true rfl, Nat.le_of_ble_eq_true rfl⟩ ⟨Nat.le_of_ble_eq_true rfl, Nat.le_of_ble_eq_true rfl⟩) hM (fun H locs b35 hM => ?_) (fun H locs b35 hM => ?_)
        · obtain ⟨kk, hkk, rfl⟩ := b35
          have hinkk : inC (nI kk) (4) := (inC_iff (by omega)).mpr ⟨kk, hkk, rfl⟩
          have hclkk : cl (nI kk) = kk := cl_nI (by omega)
          refine lv_if_ne (tgt := 44) hx hb dX3_lay_38 (by decide) (fun c38 => ?_) (fun cZ => absurd cZ (by decide))
          refine lv_iload_n hx hb dX3_lay_44 rfl (lv_at hl 2 rfl) ?_
          refine lv_iconst (v := 2) hx hb dX3_lay_45 (by decide) ?_
          refine lv_icmp_ne (tgt := 61) hx hb dX3_lay_46 (by decide) (fun cZ => absurd (by decide) cZ) (fun c46 => ?_)
          refine lv_aload_n hx hb dX3_lay_49 rfl (lv_at hl 0 rfl) ?_
          refine r_getq B hM 25 hL.1 rfl (by decide) rfl rfl (hL.2 25 _ _ rfl).1 q1407 dX3_lay_50 ?_
          refine lv_iload_n hx hb dX3_lay_53 rfl (lv_at hl 3 rfl) ?_
          refine r_ild B hM kk (hL.2 25 _ _ rfl).2 rfl (by omega) (by decide) dX3_lay_54 ?_
          refine lv_if_ge (tgt := 61) hx hb dX3_lay_55 (by decide) (fun c55 => ?_) (fun c55 => ?_)
          · refine lv_aload_n hx hb dX3_lay_61 rfl (lv_at hl 0 rfl) ?_
            refine r_getq B hM 28 hL.1 rfl (by decide) rfl rfl (hL.2 28 _ _ rfl).1 q1410 dX3_lay_62 ?_
            refine lv_iload_n hx hb dX3_lay_65 rfl (lv_at hl 1 rfl) ?_
            refine r_ild B hM ksl (hL.2 28 _ _ rfl).2 rfl (by omega) (by decide) dX3_lay_66 ?_
            refine lv_topi (fun v_9 ev_9 => ?_)
            refine lv_istore (lv' := [(4, .int v_9), (0, .ref y0), (1, .int (nI ksl)), (2, .int 2), (3, .int (nI kk))]) hx hb dX3_lay_67 hl (by decide) rfl (fun ls hl => ?_)
            refine lv_aload_n hx hb dX3_lay_69 rfl (lv_at hl 1 rfl) ?_
            refine r_getq B hM 28 hL.1 rfl (by decide) rfl rfl (hL.2 28 _ _ rfl).1 q1410 dX3_lay_70 ?_
            refine lv_iload_n hx hb dX3_lay_73 rfl (lv_at hl 2 rfl) ?_
            refine lv_iload_n hx hb dX3_lay_74 rfl (lv_at hl 3 rfl) ?_
            refine r_ist B hM ksl (hL.2 28 _ _ rfl).2 rfl (by omega) (by decide) dX3_lay_75 (fun ka_10 H locs eka_10 hM => ?_)
            refine lv_aload_n hx hb dX3_lay_76 rfl (lv_at hl 1 rfl) ?_
            refine r_getq B hM 29 hL.1 rfl (by decide) rfl rfl (hL.2 29 _ _ rfl).1 q1411 dX3_lay_77 ?_
            refine lv_iload_n hx hb dX3_lay_80 rfl (lv_at hl 2 rfl) ?_
            refine lv_iload_n hx hb dX3_lay_81 rfl (lv_at hl 3 rfl) ?_
            refine lv_iconst (v := 1) hx hb dX3_lay_82 (by decide) ?_
            refine lv_icmp_ne (tgt := 95) hx hb dX3_lay_83 (by decide) (fun c83 => ?_) (fun cZ => absurd cZ (by decide))
            refine lv_iload_n hx hb dX3_lay_95 rfl (lv_at hl 3 rfl) ?_
            refine lv_iconst (v := 2) hx hb dX3_lay_96 (by decide) ?_
            refine lv_icmp_ne (tgt := 109) hx hb dX3_lay_97 (by decide) (fun cZ => absurd (by decide) cZ) (fun c97 => ?_)
            refine lv_aload_n hx hb dX3_lay_100 rfl (lv_at hl 1 rfl) ?_
            refine r_getq B hM 26 hL.1 rfl (by decide) rfl rfl (hL.2 26 _ _ rfl).1 q1408 dX3_lay_101 ?_
            refine lv_iload_n hx hb dX3_lay_104 rfl (lv_at hl 4 rfl) ?_
            refine r_ild B hM kk (hL.2 26 _ _ rfl).2 rfl (by omega) (by decide) dX3_lay_105 ?_
            refine r_topv (v := ka 1026 kk) (by rw [eka_10, up2_a _ _ _ (by decide)]) ?_
            refine lv_goto (tgt := 110) hx hb dX3_lay_106 (by decide) ?_
            refine r_ist B hM ksl (hL.2 29 _ _ rfl).2 rfl (by omega) (by decide) dX3_lay_110 (fun ka_11 H locs eka_11 hM => ?_)
            refine lv_aload_n hx hb dX3_lay_111 rfl (lv_at hl 1 rfl) ?_
            refine r_getq B hM 30 hL.1 rfl (by decide) rfl rfl (hL.2 30 _ _ rfl).1 q1412 dX3_lay_112 ?_
            refine lv_iload_n hx hb dX3_lay_115 rfl (lv_at hl 2 rfl) ?_
            refine lv_iload_n hx hb dX3_lay_116 rfl (lv_at hl 3 rfl) ?_
            refine lv_iconst (v := 1) hx hb dX3_lay_117 (by decide) ?_
            refine lv_icmp_ne (tgt := 129) hx hb dX3_lay_118 (by decide) (fun c118 => ?_) (fun cZ => absurd cZ (by decide))
            refine lv_iconst (v := 0) hx hb dX3_lay_129 (by decide) ?_
            refine r_ist B hM ksl (hL.2 30 _ _ rfl).2 rfl (by omega) (by decide) dX3_lay_130 (fun ka_12 H locs eka_12 hM => ?_)
            have hkm : ka_12 = (up2 (up2 (up2 ka 1028 ksl 2) 1029 ksl (ka 1026 kk)) 1030 ksl 0) := by rw [eka_12, eka_11, eka_10]
            have loop : ∀ (fu_loop : Nat) (i : Nat) (kb : Ka), 24 - i < fu_loop → (i ≤ 24) → (∀ j, kb 1031 j = if 24 * ksl ≤ j ∧ j < 24 * ksl + i then (fun j => ka 1027 (24 * kk + j)) (j - 24 * ksl) else ka 1031 j) → (But [1031] (up2 (up2 (up2 ka 1028 ksl 2) 1029 ksl (ka 1026 kk)) 1030 ksl 0) kb) → ∀ (ls : Array Slot) (H : Heap) (locs : List Loc), lv_has ls 6 [(0, .ref y0), (1, .int (nI ksl)), (2, .int 2), (3, .int (nI kk)), (4, .int v_9), (5, .int (nI i))] → Md G th rh ph kb H locs → W p_ l e_ (RM 3 0 0) s_ m_ ([.ref y0, .int (nI ksl), .int 2, .int (nI kk)].toArray) below_ meth_ c_ H locs 0 0 (MQ below_ (Qi G th rh ph (fun r ka' => r = A_lay (sg ka) (nI ksl) 2 (nI kk) ∧ Rel (S_lay (sg ka) (nI ksl) 2 (nI kk)) (sg ka'))) ([.ref y0, .int (nI ksl), .int 2, .int (nI kk)].toArray) s_ 0 0 (frG G)) (F0 m_ 134 ls []) := by
              intro fu_loop
              induction fu_loop with
              | zero => intro i kb hfu; exact absurd hfu (Nat.not_lt_zero _)
              | succ fu_loop ih_loop =>
                intro i kb hfu_loop hi hrow hbu ls H locs hl hM
                refine lv_iload hx hb dX3_lay_134 (lv_at hl 5 rfl) ?_
                refine lv_bipush (v := 24) hx hb dX3_lay_136 (by decide) ?_
                refine lv_icmp_ge (tgt := 176) hx hb dX3_lay_138 (by decide) (fun c138 => ?_) (fun c138 => ?_)
                · have n138 : 24 ≤ i := ntLe rfl rfl (by omega) (by omega) c138
                  refine lv_iload hx hb dX3_lay_176 (lv_at hl 4 rfl) ?_
                  refine r_iret B hr hM dX3_lay_178 ?_
                  have hg : ¬ badL (sg ka) (nI ksl) 2 (nI kk) := by simp only [badL, sg0, sg1, sg7, sg25, sg26, sg27, sg28, sg29, sg30, sg31, sg33, sg99]; grind
                  have hg2 : ¬ ((2 : Int32) = 2 ∧ sg ka 25 (cl (nI kk)) < 0) := by rw [hclkk]; exact fun q => absurd q.2 (i_nlt.mpr c55)
                  have hi24 : i = 24 := by omega
                  subst hi24
                  constructor
                  · show _ = A_lay (sg ka) (nI ksl) 2 (nI kk); unfold A_lay; rw [if_neg hg, if_neg hg2, hclksl]; exact ev_9
                  · refine Rel.of ?_; rw [S_lay, if_neg hg, if_neg hg2, But.eq1 hbu hrow, sg_up1 _ 31, sg_up2 _ 30, sg_up2 _ 29, sg_up2 _ 28, hclksl, hclkk]; congr 1; funext j; simp only [true_and]; rfl
                · have n138 : i < 24 := ntNle rfl rfl (by omega) (by omega) c138
                  refine lv_iload_n hx hb dX3_lay_141 rfl (lv_at hl 2 rfl) ?_
                  refine lv_iconst (v := 2) hx hb dX3_lay_142 (by decide) ?_
                  refine lv_icmp_ne (tgt := 176) hx hb dX3_lay_143 (by decide) (fun cZ => absurd (by decide) cZ) (fun c143 => ?_)
                  refine lv_aload_n hx hb dX3_lay_146 rfl (lv_at hl 0 rfl) ?_
                  refine r_getq B hM 31 hL.1 rfl (by decide) rfl rfl (hL.2 31 _ _ rfl).1 q1413 dX3_lay_147 ?_
                  refine lv_bipush (v := 24) hx hb dX3_lay_150 (by decide) ?_
                  refine lv_iload_n hx hb dX3_lay_152 rfl (lv_at hl 1 rfl) ?_
                  refine lv_imul hx hb dX3_lay_153 ?_
                  refine lv_iload hx hb dX3_lay_154 (lv_at hl 5 rfl) ?_
                  refine lv_iadd hx hb dX3_lay_156 ?_
                  refine lv_aload_n hx hb dX3_lay_157 rfl (lv_at hl 0 rfl) ?_
                  refine r_getq B hM 27 hL.1 rfl (by decide) rfl rfl (hL.2 27 _ _ rfl).1 q1409 dX3_lay_158 ?_
                  refine lv_bipush (v := 24) hx hb dX3_lay_161 (by decide) ?_
                  refine lv_iload_n hx hb dX3_lay_163 rfl (lv_at hl 3 rfl) ?_
                  refine lv_imul hx hb dX3_lay_164 ?_
                  refine lv_iload hx hb dX3_lay_165 (lv_at hl 5 rfl) ?_
                  refine lv_iadd hx hb dX3_lay_167 ?_
                  refine r_ild B hM (24 * kk + i) (hL.2 27 _ _ rfl).2 (by simp only [nA, nMu, nL]) (by omega) (by decide) dX3_lay_168 ?_
                  refine r_topv (v := ka 1027 (24 * kk + i)) (by rw [hbu 1027 (by decide), up2_a _ _ _ (by decide), up2_a _ _ _ (by decide), up2_a _ _ _ (by decide)]) ?_
                  refine r_ist B hM (24 * ksl + i) (hL.2 31 _ _ rfl).2 (by simp only [nA, nMu, nL]) (by omega) (by decide) dX3_lay_169 (fun ka_13 H locs eka_13 hM => ?_)
                  refine lv_iinc (v := nI (i + 1)) (lv' := [(5, .int (nI (i + 1))), (0, .ref y0), (1, .int (nI ksl)), (2, .int 2), (3, .int (nI kk)), (4, .int v_9)]) hx hb dX3_lay_170 hl (k := 5) rfl (nI_1 _) (by decide) rfl (fun ls hl => ?_)
                  refine lv_goto (tgt := 134) hx hb dX3_lay_173 (by decide) ?_
                  exact ih_loop (i + 1) ka_13 (by omega) (by omega) (seg_step (f := fun j => ka 1027 (24 * kk + j)) eka_13 hrow) (But.trans hbu (by rw [eka_13]; exact But.up (by decide))) _ _ _ (lv_sub hl [1, 2, 3, 4, 5, 0] rfl) hM
            refine lv_iconst (v := 0) hx hb dX3_lay_131 (by decide) ?_
            refine lv_istore (lv' := [(5, .int 0), (4, .int v_9), (0, .ref y0), (1, .int (nI ksl)), (2, .int 2), (3, .int (nI kk))]) hx hb dX3_lay_132 hl (by decide) rfl (fun ls hl => ?_)
            exact loop 25 0 ka_12 (by omega) (Nat.zero_le _) (fun j => by rw [if_neg (by omega), hkm, up2_a _ _ _ (by decide), up2_a _ _ _ (by decide), up2_a _ _ _ (by decide)]) (hkm ▸ But.refl) _ _ _ (lv_sub hl [2, 3, 4, 5, 1, 0] rfl) hM
          · refine lv_ldc hx hb B.2.2.2.1 (B.ts _ q1713) dX3_lay_58 ?_
            refine r_iret B hr hM dX3_lay_60 ?_
            constructor
            · simp only [A_lay, badL, sg0, sg1, sg7, sg25, sg26, sg27, sg28, sg29, sg30, sg31, sg33, sg99, hclksl, hclkk] <;> grind
            · refine Rel.of ?_; simp only [S_lay, badL, sg0, sg1, sg7, sg25, sg26, sg27, sg28, sg29, sg30, sg31, sg33, sg99, hclksl, hclkk] <;> grind
        · refine lv_if_ne (tgt := 44) hx hb dX3_lay_38 (by decide) (fun cZ => absurd (by decide) cZ) (fun c38 => ?_)
          refine lv_ldc hx hb B.2.2.2.1 (B.ts _ q1496) dX3_lay_41 ?_
          refine r_iret B hr hM dX3_lay_43 ?_
          have ib35 := mt (inC_iff (n := 4) (by omega)).mp b35
          constructor
          · simp only [A_lay, badL, sg0, sg1, sg7, sg25, sg26, sg27, sg28, sg29, sg30, sg31, sg33, sg99, hclksl] <;> grind
          · refine Rel.of ?_; simp only [S_lay, badL, sg0, sg1, sg7, sg25, sg26, sg27, sg28, sg29, sg30, sg31, sg33, sg99, hclksl] <;> grind
      · refine lv_iload_n hx hb dX3_lay_16 rfl (lv_at hl 2 rfl) ?_
        refine lv_iconst (v := 1) hx hb dX3_lay_17 (by decide) ?_
        refine lv_icmp_ne (tgt := 29) hx hb dX3_lay_18 (by decide) (fun c18 => ?_) (fun cZ => absurd cZ (by decide))
        refine lv_iload_n hx hb dX3_lay_29 rfl (lv_at hl 2 rfl) ?_
        refine lv_iconst (v := 2) hx hb dX3_lay_30 (by decide) ?_
        refine lv_icmp_ne (tgt := 44) hx hb dX3_lay_31 (by decide) (fun c31 => ?_) (fun cZ => absurd cZ (by decide))
        refine lv_iload_n hx hb dX3_lay_44 rfl (lv_at hl 2 rfl) ?_
        refine lv_iconst (v := 2) hx hb dX3_lay_45 (by decide) ?_
        refine lv_icmp_ne (tgt := 61) hx hb dX3_lay_46 (by decide) (fun c46 => ?_) (fun cZ => absurd cZ (by decide))
        refine lv_aload_n hx hb dX3_lay_61 rfl (lv_at hl 0 rfl) ?_
        refine r_getq B hM 28 hL.1 rfl (by decide) rfl rfl (hL.2 28 _ _ rfl).1 q1410 dX3_lay_62 ?_
        refine lv_iload_n hx hb dX3_lay_65 rfl (lv_at hl 1 rfl) ?_
        refine r_ild B hM ksl (hL.2 28 _ _ rfl).2 rfl (by omega) (by decide) dX3_lay_66 ?_
        refine lv_topi (fun v_14 ev_14 => ?_)
        refine lv_istore (lv' := [(4, .int v_14), (0, .ref y0), (1, .int (nI ksl)), (2, .int 3), (3, .int k)]) hx hb dX3_lay_67 hl (by decide) rfl (fun ls hl => ?_)
        refine lv_aload_n hx hb dX3_lay_69 rfl (lv_at hl 1 rfl) ?_
        refine r_getq B hM 28 hL.1 rfl (by decide) rfl rfl (hL.2 28 _ _ rfl).1 q1410 dX3_lay_70 ?_
        refine lv_iload_n hx hb dX3_lay_73 rfl (lv_at hl 2 rfl) ?_
        refine lv_iload_n hx hb dX3_lay_74 rfl (lv_at hl 3 rfl) ?_
        refine r_ist B hM ksl (hL.2 28 _ _ rfl).2 rfl (by omega) (by decide) dX3_lay_75 (fun ka_15 H locs eka_15 hM => ?_)
        refine lv_aload_n hx hb dX3_lay_76 rfl (lv_at hl 1 rfl) ?_
        refine r_getq B hM 29 hL.1 rfl (by decide) rfl rfl (hL.2 29 _ _ rfl).1 q1411 dX3_lay_77 ?_
        refine lv_iload_n hx hb dX3_lay_80 rfl (lv_at hl 2 rfl) ?_
        refine lv_iload_n hx hb dX3_lay_81 rfl (lv_at hl 3 rfl) ?_
        refine lv_iconst (v := 1) hx hb dX3_lay_82 (by decide) ?_
        refine lv_icmp_ne (tgt := 95) hx hb dX3_lay_83 (by decide) (fun c83 => ?_) (fun cZ => absurd cZ (by decide))
        refine lv_iload_n hx hb dX3_lay_95 rfl (lv_at hl 3 rfl) ?_
        refine lv_iconst (v := 2) hx hb dX3_lay_96 (by decide) ?_
        refine lv_icmp_ne (tgt := 109) hx hb dX3_lay_97 (by decide) (fun c97 => ?_) (fun cZ => absurd cZ (by decide))
        refine lv_iload_n hx hb dX3_lay_109 rfl (lv_at hl 4 rfl) ?_
        refine r_ist B hM ksl (hL.2 29 _ _ rfl).2 rfl (by omega) (by decide) dX3_lay_110 (fun ka_16 H locs eka_16 hM => ?_)
        refine lv_aload_n hx hb dX3_lay_111 rfl (lv_at hl 1 rfl) ?_
        refine r_getq B hM 30 hL.1 rfl (by decide) rfl rfl (hL.2 30 _ _ rfl).1 q1412 dX3_lay_112 ?_
        refine lv_iload_n hx hb dX3_lay_115 rfl (lv_at hl 2 rfl) ?_
        refine lv_iload_n hx hb dX3_lay_116 rfl (lv_at hl 3 rfl) ?_
        refine lv_iconst (v := 1) hx hb dX3_lay_117 (by decide) ?_
        refine lv_icmp_ne (tgt := 129) hx hb dX3_lay_118 (by decide) (fun c118 => ?_) (fun cZ => absurd cZ (by decide))
        refine lv_iconst (v := 0) hx hb dX3_lay_129 (by decide) ?_
        refine r_ist B hM ksl (hL.2 30 _ _ rfl).2 rfl (by omega) (by decide) dX3_lay_130 (fun ka_17 H locs eka_17 hM => ?_)
        refine lv_iconst (v := 0) hx hb dX3_lay_131 (by decide) ?_
        refine lv_istore (lv' := [(5, .int 0), (4, .int v_14), (0, .ref y0), (1, .int (nI ksl)), (2, .int 3), (3, .int k)]) hx hb dX3_lay_132 hl (by decide) rfl (fun ls hl => ?_)
        refine lv_iload hx hb dX3_lay_134 (lv_at hl 0 rfl) ?_
        refine lv_bipush (v := 24) hx hb dX3_lay_136 (by decide) ?_
        refine lv_icmp_ge (tgt := 176) hx hb dX3_lay_138 (by decide) (fun cZ => absurd cZ (by decide)) (fun c138 => ?_)
        refine lv_iload_n hx hb dX3_lay_141 rfl (lv_at hl 4 rfl) ?_
        refine lv_iconst (v := 2) hx hb dX3_lay_142 (by decide) ?_
        refine lv_icmp_ne (tgt := 176) hx hb dX3_lay_143 (by decide) (fun c143 => ?_) (fun cZ => absurd cZ (by decide))
        refine lv_iload hx hb dX3_lay_176 (lv_at hl 1 rfl) ?_
        refine r_iret B hr hM dX3_lay_178 ?_
        have hg : ¬ badL (sg ka) (nI ksl) 3 k := by simp only [badL, sg0, sg1, sg7, sg25, sg26, sg27, sg28, sg29, sg30, sg31, sg33, sg99]; grind
        have hg2 : ¬ ((3 : Int32) = 2 ∧ sg ka 25 (cl k) < 0) := fun q => absurd q.1 (by decide)
        constructor
        · show _ = A_lay (sg ka) (nI ksl) 3 k; unfold A_lay; rw [if_neg hg, if_neg hg2, hclksl]; exact ev_14
        · refine Rel.of ?_; rw [S_lay, if_neg hg, if_neg hg2]; rw [eka_17, eka_16, eka_15, sg_up2 _ 30, sg_up2 _ 29, sg_up2 _ 28]; rw [hclksl]; refine (up1_self (funext fun j => ?_)).trans ?_
          · rw [if_neg (fun q => absurd q.1 (by decide)), up2_a _ _ _ (by decide), up2_a _ _ _ (by decide), up2_a _ _ _ (by decide)]
          · rw [if_neg (by decide), if_neg (by decide), if_neg (by decide)]
    · refine lv_if_eq (tgt := 41) hx hb dX3_lay_13 (by decide) (fun c13 => ?_) (fun cZ => absurd (by decide) cZ)
      refine lv_ldc hx hb B.2.2.2.1 (B.ts _ q1496) dX3_lay_41 ?_
      refine r_iret B hr hM dX3_lay_43 ?_
      constructor
      · simp only [A_lay, badL, sg0, sg1, sg7, sg25, sg26, sg27, sg28, sg29, sg30, sg31, sg33, sg99, hclksl] <;> grind
      · refine Rel.of ?_; simp only [S_lay, badL, sg0, sg1, sg7, sg25, sg26, sg27, sg28, sg29, sg30, sg31, sg33, sg99, hclksl] <;> grind
  · refine lv_if_eq (tgt := 41) hx hb dX3_lay_4 (by decide) (fun c4 => ?_) (fun cZ => absurd (by decide) cZ)
    refine lv_ldc hx hb B.2.2.2.1 (B.ts _ q1496) dX3_lay_41 ?_
    refine r_iret B hr hM dX3_lay_43 ?_
    have ib1 := mt (inC_iff (n := 5) (by omega)).mp b1
    constructor
    · simp only [A_lay, badL, sg0, sg1, sg7, sg25, sg26, sg27, sg28, sg29, sg30, sg31, sg33, sg99] <;> grind
    · refine Rel.of ?_; simp only [S_lay, badL, sg0, sg1, sg7, sg25, sg26, sg27, sg28, sg29, sg30, sg31, sg33, sg99] <;> grind
theorem chk_row {t i0 u : Row} (hR : Rok (cpT i0 t)) {n : Nat} {a : Row} (ha : ∀ i, i < 1479 → a i = t i) (hu : u = hoursT n (cpT i0 t)) : cpT a u = t := by
  funext i
  unfold cpT
  by_cases h : i < 1479
  · rw [if_pos h]; exact ha i h
  · rw [if_neg h, hu, (hoursT_seq hR n).tx (by omega)]
    unfold cpT
    rw [if_neg h]
theorem chT_0 {tells t : Row} {many k : Nat} : chT tells many t 0 k = 2 * k := rfl
theorem chT_s {tells t : Row} {many f k : Nat} : chT tells many t (f + 1) k = if ¬ (2 * k < many ∧ tells (2 * k) = allT (hoursT (k + 1) t)) then 2 * k else if ¬ (2 * k + 1 < many ∧ tells (2 * k + 1) = hoursT (k + 1) t 5) then 2 * k + 1 else chT tells many t f (k + 1) := rfl
theorem cl_le {x : Int32} {k : Nat} (h : x ≤ nI k) (hk : k < 2 ^ 31) : cl x ≤ k := by
  rw [i32_le, nI_toInt hk] at h
  show x.toInt.toNat ≤ k
  omega
theorem Rok.cp {i0 t : Row} (hR : Rok i0) : Rok (cpT i0 t) := by
  have e : ∀ i, i < 1479 → cpT i0 t i = i0 i := fun i h => if_pos h
  obtain ⟨⟨a1, a2⟩, ⟨b1, b2⟩, ⟨c1, c2⟩, d, f⟩ := hR
  have n1 : nC (cpT i0 t) = nC i0 := by unfold nC; rw [e _ (by omega)]
  have n2 : nP (cpT i0 t) = nP i0 := by unfold nP; rw [e _ (by omega)]
  have n3 : nX (cpT i0 t) = nX i0 := by unfold nX; rw [e _ (by omega)]
  refine ⟨⟨by rw [e _ (by omega), n1]; exact a1, by rw [n1]; exact a2⟩, ⟨by rw [e _ (by omega), n2]; exact b1, by rw [n2]; exact b2⟩, ⟨by rw [e _ (by omega), n3]; exact c1, by rw [n3]; exact c2⟩, fun q hq => ?_, fun x hx' => ?_⟩
  · rw [n2] at hq
    have p1 : pA (cpT i0 t) q = pA i0 q := by unfold pA; rw [e _ (by omega)]
    have p2 : pB (cpT i0 t) q = pB i0 q := by unfold pB; rw [e _ (by omega)]
    rw [e _ (by omega), e _ (by omega), p1, p2, n1]
    exact d q hq
  · rw [n3] at hx'
    have l1 : lenT (cpT i0 t) x = lenT i0 x := by unfold lenT; rw [e _ (by omega)]
    obtain ⟨key, q1, q2, q3, q4⟩ := f x hx'
    have l2 : codeT (cpT i0 t) x = codeT i0 x := by
      unfold codeT; rw [l1]; exact List.map_congr_left fun k hk => e _ (by have := List.mem_range.mp hk; omega)
    exact ⟨key, q1, by rw [l1]; exact q2, by rw [l1, e _ (by omega)]; exact q3, by rw [l2]; exact q4⟩
set_option maxHeartbeats 4000000 in
theorem ok_check (hL : LayM th rh y0 ay) (hS : Sok (sg ka)) (n : Int32) : Met l yX3_check (ws_ yX3_check cX3_check 6 (some .int)) (RM 9 0 0) (Pc_ G [.ref y0, .int n] th rh ph ka) (Qi G th rh ph (fun r ka' => r = A_check (sg ka) n ∧ Rel (S_check (sg ka) n) (sg ka'))) 0 0 (frG G) := by
  refine m_of (by decide) (Nat.le_of_ble_eq_true rfl) ?_
  intro p_ e_ s_ m_ below_ meth_ c_ B hr hnm ls hl hM
  have hx := B.1
  have hb := B.2.1
  have hM := hM
  have hR := hS.r
  have h8 := hR.1.2
  have h13 := hR.2.1.2
  have h14 := hR.2.2.1.2
  obtain ⟨wt, hwt60, hwt⟩ := hS.2.2.2.2.1
  have hwt : ka 1099 34 = nI wt := hwt
  have hclwt : cl (ka 1099 34) = wt := by rw [hwt]; exact cl_nI (by omega)
  refine lv_aload_n hx hb dX3_check_0 rfl (lv_at hl 0 rfl) ?_
  refine r_geti B hM 34 hL.1 rfl (by decide) rfl rfl q1416 dX3_check_1 ?_
  refine lv_istore_n (lv' := [(2, .int (ka 1099 34)), (0, .ref y0), (1, .int n)]) hx hb dX3_check_4 rfl hl (by decide) rfl (fun ls hl => ?_)
  refine lv_aload_n hx hb dX3_check_5 rfl (lv_at hl 1 rfl) ?_
  refine lv_iconst (v := 0) hx hb dX3_check_6 (by decide) ?_
  refine r_puti B hM 34 hL.1 rfl (by decide) rfl rfl q1416 dX3_check_7 (fun ka_1 H locs eka_1 hM => ?_)
  refine lv_iload_n hx hb dX3_check_10 rfl (lv_at hl 2 rfl) ?_
  refine lv_iconst (v := 1) hx hb dX3_check_11 (by decide) ?_
  refine lv_bipush (v := 30) hx hb dX3_check_12 (by decide) ?_
  refine k_pb (r_S (As := [.int n, .int 1, .int 30]) (rest := []) B hM (ok_in n 1 30) cal_X3_in q1493 rfl hl.1 (Nat.le_of_ble_eq_true rfl) dX3_check_14 ⟨Nat.le_of_ble_eq_true rfl, Nat.le_of_ble_eq_true rfl⟩ ⟨Nat.le_of_ble_eq_true rfl, Nat.le_of_ble_eq_true rfl⟩) hM (fun H locs b14 hM => ?_) (fun H locs b14 hM => ?_)
  · refine lv_if_ne (tgt := 23) hx hb dX3_check_17 (by decide) (fun c17 => ?_) (fun cZ => absurd cZ (by decide))
    refine lv_aload_n hx hb dX3_check_23 rfl (lv_at hl 1 rfl) ?_
    refine r_geti B hM 3 hL.1 rfl (by decide) rfl rfl q1385 dX3_check_24 ?_
    refine r_topv (v := ka 1099 3) (by rw [eka_1, up2_i _ _ _ _ (by decide)]) ?_
    refine lv_if_ne (tgt := 34) hx hb dX3_check_27 (by decide) (fun c27 => ?_) (fun c27 => ?_)
    · have hB0 : But [1000, 1002, 1004, 1023, 1024] (up2 ka 1099 34 0) ka_1 := by rw [eka_1]; exact But.refl
      have hRi : Rok (ka 1001) := by rcases hS.2.2.1 with q | q; exact absurd q c27; exact q.2.1
      have hR0 : Rok (cpT (ka 1001) (ka 1000)) := hRi.cp
      obtain ⟨kn, hkna, hknb, rfl⟩ := (btw_iff (a := 1) (b := 30) (by decide) (by decide)).mp b14
      have hclkn : cl (nI kn) = kn := cl_nI (by omega)
      refine lv_aload_n hx hb dX3_check_34 rfl (lv_at hl 1 rfl) ?_
      refine r_getq B hM 0 hL.1 rfl (by decide) rfl rfl (hL.2 0 _ _ rfl).1 q1382 dX3_check_35 ?_
      refine lv_aload_n hx hb dX3_check_38 rfl (lv_at hl 1 rfl) ?_
      refine r_getq B hM 2 hL.1 rfl (by decide) rfl rfl (hL.2 2 _ _ rfl).1 q1384 dX3_check_39 ?_
      refine k_v (r_S (As := [.ref (ay 0), .ref (ay 2)]) (rest := []) B hM (ok_copyAll (hL.2 0 _ _ rfl).2 (hL.2 2 _ _ rfl).2 (by decide)) cal_X3_copyAll q1844 rfl hl.1 (Nat.le_of_ble_eq_true rfl) dX3_check_42 ⟨Nat.le_of_ble_eq_true rfl, Nat.le_of_ble_eq_true rfl⟩ ⟨Nat.le_of_ble_eq_true rfl, Nat.le_of_ble_eq_true rfl⟩) hM (fun ka_2 H locs p_3 hM => ?_)
      obtain ⟨hcp1, hq1⟩ := p_3
      have has1 : ka_2 1002 = cpT (ka 1000) (ka 1002) := by rw [hcp1, eka_1, up2_a _ _ _ (by decide), up2_a _ _ _ (by decide)]
      have hz1 : ka_2 1000 = ka 1000 ∧ ka_2 1001 = ka 1001 := by rw [hq1 1000 (by decide), hq1 1001 (by decide), eka_1, up2_a _ _ _ (by decide), up2_a _ _ _ (by decide)]; exact ⟨rfl, rfl⟩
      have hB_2 : But [1000, 1002, 1004, 1023, 1024] (up2 ka 1099 34 0) ka_2 := But.trans hB0 (But.mono hq1 (by decide))
      refine lv_aload_n hx hb dX3_check_45 rfl (lv_at hl 1 rfl) ?_
      refine r_getq B hM 1 hL.1 rfl (by decide) rfl rfl (hL.2 1 _ _ rfl).1 q1383 dX3_check_46 ?_
      refine lv_aload_n hx hb dX3_check_49 rfl (lv_at hl 1 rfl) ?_
      refine r_getq B hM 0 hL.1 rfl (by decide) rfl rfl (hL.2 0 _ _ rfl).1 q1382 dX3_check_50 ?_
      refine k_v (r_S (As := [.ref (ay 1), .ref (ay 0)]) (rest := []) B hM (ok_copyAll (hL.2 1 _ _ rfl).2 (hL.2 0 _ _ rfl).2 (by decide)) cal_X3_copyAll q1844 rfl hl.1 (Nat.le_of_ble_eq_true rfl) dX3_check_53 ⟨Nat.le_of_ble_eq_true rfl, Nat.le_of_ble_eq_true rfl⟩ ⟨Nat.le_of_ble_eq_true rfl, Nat.le_of_ble_eq_true rfl⟩) hM (fun ka_4 H locs p_5 hM => ?_)
      obtain ⟨hcp2, hq2⟩ := p_5
      have has2 : ka_4 1002 = cpT (ka 1000) (ka 1002) := (hq2 1002 (by decide)).trans has1
      have hT2 : ka_4 1000 = (cpT (ka 1001) (ka 1000)) := by rw [hcp2, hz1.1, hz1.2]
      have hB_4 : But [1000, 1002, 1004, 1023, 1024] (up2 ka 1099 34 0) ka_4 := But.trans hB_2 (But.mono hq2 (by decide))
      refine lv_iconst (v := 2) hx hb dX3_check_56 (by decide) ?_
      refine lv_sipush (v := 9999) hx hb dX3_check_57 (by decide) ?_
      refine lv_aload_n hx hb dX3_check_60 rfl (lv_at hl 1 rfl) ?_
      refine r_getq B hM 0 hL.1 rfl (by decide) rfl rfl (hL.2 0 _ _ rfl).1 q1382 dX3_check_61 ?_
      refine lv_iconst (v := 3) hx hb dX3_check_64 (by decide) ?_
      refine r_ild B hM 3 (hL.2 0 _ _ rfl).2 rfl (by decide) (by decide) dX3_check_65 ?_
      refine r_topv (v := (cpT (ka 1001) (ka 1000)) 3) (congrFun hT2 _) ?_
      refine lv_isub hx hb dX3_check_66 ?_
      refine lv_iconst (v := 0) hx hb dX3_check_67 (by decide) ?_
      refine lv_iload_n hx hb dX3_check_68 rfl (lv_at hl 2 rfl) ?_
      refine k_pe (v := wi ((9999 : Int32) - ((cpT (ka 1001) (ka 1000)) 3)) 0 (nI kn)) (r_S (As := [.int ((9999 : Int32) - ((cpT (ka 1001) (ka 1000)) 3)), .int 0, .int (nI kn)]) (rest := [.int 2]) B hM (ok_within ((9999 : Int32) - ((cpT (ka 1001) (ka 1000)) 3)) 0 (nI kn)) cal_X3_within q1526 rfl hl.1 (Nat.le_of_ble_eq_true rfl) dX3_check_69 ⟨Nat.le_of_ble_eq_true rfl, Nat.le_of_ble_eq_true rfl⟩ ⟨Nat.le_of_ble_eq_true rfl, Nat.le_of_ble_eq_true rfl⟩) hM (fun H locs hM => ?_)
      refine lv_imul hx hb dX3_check_72 ?_
      obtain ⟨hN1, hN2⟩ := wi_nI (x := 9999 - ka 1001 3) (n := nI kn) (nI_pos' (by omega))
      obtain ⟨N, hN⟩ : ∃ N : Nat, N = cl (wi (9999 - ka 1001 3) 0 (nI kn)) := ⟨_, rfl⟩
      rw [← hN] at hN1
      have hN30 : N ≤ kn := by rw [hN]; exact cl_le hN2 (by omega)
      refine r_topv (v := nI (2 * N)) (by rw [show (cpT (ka 1001) (ka 1000)) 3 = ka 1001 3 from if_pos (by decide), hN1]; simp only [nMu, nL]) ?_
      refine lv_istore_n (lv' := [(3, .int (nI (2 * N))), (2, .int (ka 1099 34)), (0, .ref y0), (1, .int (nI kn))]) hx hb dX3_check_73 rfl hl (by decide) rfl (fun ls hl => ?_)
      have loop : ∀ (fu_loop : Nat) (i : Nat) (g : Nat) (kb : Ka), N - i < fu_loop → (i ≤ N) → (g ≤ 2 * i) → (kb 1000 = hoursT i (cpT (ka 1001) (ka 1000))) → (kb 1002 = cpT (ka 1000) (ka 1002)) → ((g = 2 * i ∧ chT (ka 1033) wt (cpT (ka 1001) (ka 1000)) (N - i) i = (chT (ka 1033) wt (cpT (ka 1001) (ka 1000)) N 0)) ∨ (g ≠ 2 * i ∧ (chT (ka 1033) wt (cpT (ka 1001) (ka 1000)) N 0) = g)) → (But [1000, 1002, 1004, 1023, 1024] (up2 ka 1099 34 0) kb) → ∀ (ls : Array Slot) (H : Heap) (locs : List Loc), lv_has ls 6 [(0, .ref y0), (1, .int (nI kn)), (2, .int (ka 1099 34)), (3, .int (nI (2 * N))), (4, .int (nI g)), (5, .int (nI i))] → Md G th rh ph kb H locs → W p_ l e_ (RM 9 0 0) s_ m_ ([.ref y0, .int (nI kn)].toArray) below_ meth_ c_ H locs 0 0 (MQ below_ (Qi G th rh ph (fun r ka' => r = A_check (sg ka) (nI kn) ∧ Rel (S_check (sg ka) (nI kn)) (sg ka'))) ([.ref y0, .int (nI kn)].toArray) s_ 0 0 (frG G)) (F0 m_ 80 ls []) := by
        intro fu_loop
        induction fu_loop with
        | zero => intro i g kb hfu; exact absurd hfu (Nat.not_lt_zero _)
        | succ fu_loop ih_loop =>
          intro i g kb hfu_loop hi hg2 hT has hcase hbu ls H locs hl hM
          refine lv_iconst (v := 2) hx hb dX3_check_80 (by decide) ?_
          refine lv_iload hx hb dX3_check_81 (lv_at hl 5 rfl) ?_
          refine lv_imul hx hb dX3_check_83 ?_
          refine lv_iload_n hx hb dX3_check_84 rfl (lv_at hl 3 rfl) ?_
          refine lv_icmp_ge (tgt := 180) hx hb dX3_check_85 (by decide) (fun c85 => ?_) (fun c85 => ?_)
          · have n85 : 2 * N ≤ 2 * i := ntLe rfl (by simp only [nA, nMu, nL]) (by omega) (by omega) c85
            refine lv_aload_n hx hb dX3_check_180 rfl (lv_at hl 0 rfl) ?_
            refine r_getq B hM 2 hL.1 rfl (by decide) rfl rfl (hL.2 2 _ _ rfl).1 q1384 dX3_check_181 ?_
            refine lv_aload_n hx hb dX3_check_184 rfl (lv_at hl 0 rfl) ?_
            refine r_getq B hM 0 hL.1 rfl (by decide) rfl rfl (hL.2 0 _ _ rfl).1 q1382 dX3_check_185 ?_
            refine k_v (r_S (As := [.ref (ay 2), .ref (ay 0)]) (rest := []) B hM (ok_copyAll (hL.2 2 _ _ rfl).2 (hL.2 0 _ _ rfl).2 (by decide)) cal_X3_copyAll q1844 rfl hl.1 (Nat.le_of_ble_eq_true rfl) dX3_check_188 ⟨Nat.le_of_ble_eq_true rfl, Nat.le_of_ble_eq_true rfl⟩ ⟨Nat.le_of_ble_eq_true rfl, Nat.le_of_ble_eq_true rfl⟩) hM (fun ka_6 H locs p_7 hM => ?_)
            obtain ⟨hcp3, hq3⟩ := p_7
            have hT3 : ka_6 1000 = ka 1000 := by rw [hcp3, has]; exact chk_row hR0 (fun j hj => if_pos hj) hT
            have hB_6 : But [1000, 1002, 1004, 1023, 1024] (up2 ka 1099 34 0) ka_6 := But.trans hbu (But.mono hq3 (by decide))
            refine lv_iload hx hb dX3_check_191 (lv_at hl 4 rfl) ?_
            refine lv_iload_n hx hb dX3_check_193 rfl (lv_at hl 2 rfl) ?_
            refine lv_icmp_ne (tgt := 207) hx hb dX3_check_194 (by decide) (fun c194 => ?_) (fun c194 => ?_)
            · have n194 : g ≠ wt := ntNe rfl (by rw [hwt]) (by omega) (by omega) c194
              refine lv_iconst (v := 1) hx hb dX3_check_207 (by decide) ?_
              refine lv_iload hx hb dX3_check_208 (lv_at hl 4 rfl) ?_
              refine lv_iadd hx hb dX3_check_210 ?_
              refine r_iret B hr hM dX3_check_211 ?_
              have hres : (chT (ka 1033) wt (cpT (ka 1001) (ka 1000)) N 0) = g := by
                rcases hcase with q | q
                · rw [← q.2, show N - i = 0 by omega]; show 2 * i = g; omega
                · exact q.2
              have hrr : chR (sg ka) (nI kn) = g := by unfold chR chN; rw [show cl (sg ka 99 34) = wt from hclwt, show cl (wi (9999 - sg ka 1 3) 0 (nI kn)) = N from hN.symm]; exact hres
              have hnn : chN (sg ka) (nI kn) = N := hN.symm
              constructor
              · show _ = A_check (sg ka) (nI kn); unfold A_check; rw [if_neg (fun q => q b14), if_neg (by exact c27), hrr, hnn, show cl (sg ka 99 34) = wt from hclwt, if_neg (fun q => absurd q.1 (by omega))]; simp only [nA, nL]
              · rw [show S_check (sg ka) (nI kn) = sg (up2 ka 1099 34 0) from (sg_up2 ka 99 34 0).symm]; exact Rel.back hB_6 (by rw [hT3, up2_a _ _ _ (by decide)]) (by decide)
            · have n194 : g = wt := ntEq rfl (by rw [hwt]) (by omega) (by omega) c194
              refine lv_iload hx hb dX3_check_197 (lv_at hl 4 rfl) ?_
              refine lv_iload_n hx hb dX3_check_199 rfl (lv_at hl 3 rfl) ?_
              refine lv_icmp_ne (tgt := 207) hx hb dX3_check_200 (by decide) (fun c200 => ?_) (fun c200 => ?_)
              · have n200 : g ≠ 2 * N := ntNe rfl rfl (by omega) (by omega) c200
                refine lv_iconst (v := 1) hx hb dX3_check_207 (by decide) ?_
                refine lv_iload hx hb dX3_check_208 (lv_at hl 4 rfl) ?_
                refine lv_iadd hx hb dX3_check_210 ?_
                refine r_iret B hr hM dX3_check_211 ?_
                have hres : (chT (ka 1033) wt (cpT (ka 1001) (ka 1000)) N 0) = g := by
                  rcases hcase with q | q
                  · rw [← q.2, show N - i = 0 by omega]; show 2 * i = g; omega
                  · exact q.2
                have hrr : chR (sg ka) (nI kn) = g := by unfold chR chN; rw [show cl (sg ka 99 34) = wt from hclwt, show cl (wi (9999 - sg ka 1 3) 0 (nI kn)) = N from hN.symm]; exact hres
                have hnn : chN (sg ka) (nI kn) = N := hN.symm
                constructor
                · show _ = A_check (sg ka) (nI kn); unfold A_check; rw [if_neg (fun q => q b14), if_neg (by exact c27), hrr, hnn, show cl (sg ka 99 34) = wt from hclwt, if_neg (fun q => absurd q.2 (by omega))]; simp only [nA, nL]
                · rw [show S_check (sg ka) (nI kn) = sg (up2 ka 1099 34 0) from (sg_up2 ka 99 34 0).symm]; exact Rel.back hB_6 (by rw [hT3, up2_a _ _ _ (by decide)]) (by decide)
              · have n200 : g = 2 * N := ntEq rfl rfl (by omega) (by omega) c200
                refine lv_iconst (v := 0) hx hb dX3_check_203 (by decide) ?_
                refine lv_goto (tgt := 211) hx hb dX3_check_204 (by decide) ?_
                refine r_iret B hr hM dX3_check_211 ?_
                have hres : (chT (ka 1033) wt (cpT (ka 1001) (ka 1000)) N 0) = g := by
                  rcases hcase with q | q
                  · rw [← q.2, show N - i = 0 by omega]; show 2 * i = g; omega
                  · exact q.2
                have hrr : chR (sg ka) (nI kn) = g := by unfold chR chN; rw [show cl (sg ka 99 34) = wt from hclwt, show cl (wi (9999 - sg ka 1 3) 0 (nI kn)) = N from hN.symm]; exact hres
                have hnn : chN (sg ka) (nI kn) = N := hN.symm
                constructor
                · show _ = A_check (sg ka) (nI kn); unfold A_check; rw [if_neg (fun q => q b14), if_neg (by exact c27), hrr, hnn, show cl (sg ka 99 34) = wt from hclwt, if_pos ⟨by omega, by omega⟩]
                · rw [show S_check (sg ka) (nI kn) = sg (up2 ka 1099 34 0) from (sg_up2 ka 99 34 0).symm]; exact Rel.back hB_6 (by rw [hT3, up2_a _ _ _ (by decide)]) (by decide)
          · have n85 : 2 * i < 2 * N := ntNle rfl (by simp only [nA, nMu, nL]) (by omega) (by omega) c85
            refine lv_iload hx hb dX3_check_88 (lv_at hl 4 rfl) ?_
            refine lv_iconst (v := 2) hx hb dX3_check_90 (by decide) ?_
            refine lv_iload hx hb dX3_check_91 (lv_at hl 5 rfl) ?_
            refine lv_imul hx hb dX3_check_93 ?_
            refine lv_icmp_ne (tgt := 180) hx hb dX3_check_94 (by decide) (fun c94 => ?_) (fun c94 => ?_)
            · have n94 : g ≠ 2 * i := ntNe rfl (by simp only [nA, nMu, nL]) (by omega) (by omega) c94
              refine lv_aload_n hx hb dX3_check_180 rfl (lv_at hl 0 rfl) ?_
              refine r_getq B hM 2 hL.1 rfl (by decide) rfl rfl (hL.2 2 _ _ rfl).1 q1384 dX3_check_181 ?_
              refine lv_aload_n hx hb dX3_check_184 rfl (lv_at hl 0 rfl) ?_
              refine r_getq B hM 0 hL.1 rfl (by decide) rfl rfl (hL.2 0 _ _ rfl).1 q1382 dX3_check_185 ?_
              refine k_v (r_S (As := [.ref (ay 2), .ref (ay 0)]) (rest := []) B hM (ok_copyAll (hL.2 2 _ _ rfl).2 (hL.2 0 _ _ rfl).2 (by decide)) cal_X3_copyAll q1844 rfl hl.1 (Nat.le_of_ble_eq_true rfl) dX3_check_188 ⟨Nat.le_of_ble_eq_true rfl, Nat.le_of_ble_eq_true rfl⟩ ⟨Nat.le_of_ble_eq_true rfl, Nat.le_of_ble_eq_true rfl⟩) hM (fun ka_8 H locs p_9 hM => ?_)
              obtain ⟨hcp3, hq3⟩ := p_9
              have hT3 : ka_8 1000 = ka 1000 := by rw [hcp3, has]; exact chk_row hR0 (fun j hj => if_pos hj) hT
              have hB_8 : But [1000, 1002, 1004, 1023, 1024] (up2 ka 1099 34 0) ka_8 := But.trans hbu (But.mono hq3 (by decide))
              refine lv_iload hx hb dX3_check_191 (lv_at hl 4 rfl) ?_
              refine lv_iload_n hx hb dX3_check_193 rfl (lv_at hl 2 rfl) ?_
              refine lv_icmp_ne (tgt := 207) hx hb dX3_check_194 (by decide) (fun c194 => ?_) (fun c194 => ?_)
              · have n194 : g ≠ wt := ntNe rfl (by rw [hwt]) (by omega) (by omega) c194
                refine lv_iconst (v := 1) hx hb dX3_check_207 (by decide) ?_
                refine lv_iload hx hb dX3_check_208 (lv_at hl 4 rfl) ?_
                refine lv_iadd hx hb dX3_check_210 ?_
                refine r_iret B hr hM dX3_check_211 ?_
                have hres : (chT (ka 1033) wt (cpT (ka 1001) (ka 1000)) N 0) = g := by
                  rcases hcase with q | q
                  · rw [← q.2, show N - i = 0 by omega]; show 2 * i = g; omega
                  · exact q.2
                have hrr : chR (sg ka) (nI kn) = g := by unfold chR chN; rw [show cl (sg ka 99 34) = wt from hclwt, show cl (wi (9999 - sg ka 1 3) 0 (nI kn)) = N from hN.symm]; exact hres
                have hnn : chN (sg ka) (nI kn) = N := hN.symm
                constructor
                · show _ = A_check (sg ka) (nI kn); unfold A_check; rw [if_neg (fun q => q b14), if_neg (by exact c27), hrr, hnn, show cl (sg ka 99 34) = wt from hclwt, if_neg (fun q => absurd q.1 (by omega))]; simp only [nA, nL]
                · rw [show S_check (sg ka) (nI kn) = sg (up2 ka 1099 34 0) from (sg_up2 ka 99 34 0).symm]; exact Rel.back hB_8 (by rw [hT3, up2_a _ _ _ (by decide)]) (by decide)
              · have n194 : g = wt := ntEq rfl (by rw [hwt]) (by omega) (by omega) c194
                refine lv_iload hx hb dX3_check_197 (lv_at hl 4 rfl) ?_
                refine lv_iload_n hx hb dX3_check_199 rfl (lv_at hl 3 rfl) ?_
                refine lv_icmp_ne (tgt := 207) hx hb dX3_check_200 (by decide) (fun c200 => ?_) (fun c200 => ?_)
                · have n200 : g ≠ 2 * N := ntNe rfl rfl (by omega) (by omega) c200
                  refine lv_iconst (v := 1) hx hb dX3_check_207 (by decide) ?_
                  refine lv_iload hx hb dX3_check_208 (lv_at hl 4 rfl) ?_
                  refine lv_iadd hx hb dX3_check_210 ?_
                  refine r_iret B hr hM dX3_check_211 ?_
                  have hres : (chT (ka 1033) wt (cpT (ka 1001) (ka 1000)) N 0) = g := by
                    rcases hcase with q | q
                    · rw [← q.2, show N - i = 0 by omega]; show 2 * i = g; omega
                    · exact q.2
                  have hrr : chR (sg ka) (nI kn) = g := by unfold chR chN; rw [show cl (sg ka 99 34) = wt from hclwt, show cl (wi (9999 - sg ka 1 3) 0 (nI kn)) = N from hN.symm]; exact hres
                  have hnn : chN (sg ka) (nI kn) = N := hN.symm
                  constructor
                  · show _ = A_check (sg ka) (nI kn); unfold A_check; rw [if_neg (fun q => q b14), if_neg (by exact c27), hrr, hnn, show cl (sg ka 99 34) = wt from hclwt, if_neg (fun q => absurd q.2 (by omega))]; simp only [nA, nL]
                  · rw [show S_check (sg ka) (nI kn) = sg (up2 ka 1099 34 0) from (sg_up2 ka 99 34 0).symm]; exact Rel.back hB_8 (by rw [hT3, up2_a _ _ _ (by decide)]) (by decide)
                · have n200 : g = 2 * N := ntEq rfl rfl (by omega) (by omega) c200
                  refine lv_iconst (v := 0) hx hb dX3_check_203 (by decide) ?_
                  refine lv_goto (tgt := 211) hx hb dX3_check_204 (by decide) ?_
                  refine r_iret B hr hM dX3_check_211 ?_
                  have hres : (chT (ka 1033) wt (cpT (ka 1001) (ka 1000)) N 0) = g := by
                    rcases hcase with q | q
                    · rw [← q.2, show N - i = 0 by omega]; show 2 * i = g; omega
                    · exact q.2
                  have hrr : chR (sg ka) (nI kn) = g := by unfold chR chN; rw [show cl (sg ka 99 34) = wt from hclwt, show cl (wi (9999 - sg ka 1 3) 0 (nI kn)) = N from hN.symm]; exact hres
                  have hnn : chN (sg ka) (nI kn) = N := hN.symm
                  constructor
                  · show _ = A_check (sg ka) (nI kn); unfold A_check; rw [if_neg (fun q => q b14), if_neg (by exact c27), hrr, hnn, show cl (sg ka 99 34) = wt from hclwt, if_pos ⟨by omega, by omega⟩]
                  · rw [show S_check (sg ka) (nI kn) = sg (up2 ka 1099 34 0) from (sg_up2 ka 99 34 0).symm]; exact Rel.back hB_8 (by rw [hT3, up2_a _ _ _ (by decide)]) (by decide)
            · have n94 : g = 2 * i := ntEq rfl (by simp only [nA, nMu, nL]) (by omega) (by omega) c94
              refine lv_aload_n hx hb dX3_check_97 rfl (lv_at hl 0 rfl) ?_
              refine k_v (r_V (As := []) (rest := []) B hM hL.1 rfl rfl (ok_hour hL (by rw [hT]; exact ((hoursT_seq hR0 i).rok hR0))) cal_X3_hour q1633 rfl hl.1 (Nat.le_of_ble_eq_true rfl) dX3_check_98 ⟨Nat.le_of_ble_eq_true rfl, Nat.le_of_ble_eq_true rfl⟩ ⟨Nat.le_of_ble_eq_true rfl, Nat.le_of_ble_eq_true rfl⟩) hM (fun ka_10 H locs p_11 hM => ?_)
              obtain ⟨hf10, hq⟩ := p_11
              have hT10 : ka_10 1000 = hoursT (i + 1) (cpT (ka 1001) (ka 1000)) := by rw [hf10, hT]; rfl
              have has10 : ka_10 1002 = cpT (ka 1000) (ka 1002) := (hq 1002 (by decide)).trans has
              have hB_10 : But [1000, 1002, 1004, 1023, 1024] (up2 ka 1099 34 0) ka_10 := But.trans hbu (But.mono hq (by decide))
              refine lv_iload hx hb dX3_check_101 (lv_at hl 4 rfl) ?_
              refine lv_iload hx hb dX3_check_103 (lv_at hl 4 rfl) ?_
              refine lv_iload_n hx hb dX3_check_105 rfl (lv_at hl 2 rfl) ?_
              refine lv_icmp_ge (tgt := 127) hx hb dX3_check_106 (by decide) (fun c106 => ?_) (fun c106 => ?_)
              · have n106 : wt ≤ g := ntLe (by rw [hwt]) rfl (by omega) (by omega) c106
                refine lv_iconst (v := 0) hx hb dX3_check_127 (by decide) ?_
                refine lv_iadd hx hb dX3_check_128 ?_
                refine r_topv (v := nI (g)) (Int32.add_zero _) ?_
                refine lv_istore (lv' := [(4, .int (nI g)), (0, .ref y0), (1, .int (nI kn)), (2, .int (ka 1099 34)), (3, .int (nI (2 * N))), (5, .int (nI i))]) hx hb dX3_check_129 hl (by decide) rfl (fun ls hl => ?_)
                refine lv_iload hx hb dX3_check_131 (lv_at hl 0 rfl) ?_
                refine lv_iload hx hb dX3_check_133 (lv_at hl 0 rfl) ?_
                refine lv_iconst (v := 2) hx hb dX3_check_135 (by decide) ?_
                refine lv_iload hx hb dX3_check_136 (lv_at hl 5 rfl) ?_
                refine lv_imul hx hb dX3_check_138 ?_
                refine lv_iconst (v := 1) hx hb dX3_check_139 (by decide) ?_
                refine lv_iadd hx hb dX3_check_140 ?_
                refine lv_icmp_ne (tgt := 170) hx hb dX3_check_141 (by decide) (fun c141 => ?_) (fun cZ => absurd cZ (fun z => absurd (ntEq (a := g) (b := 2 * i + 1) rfl (by simp only [nA, nMu, nL]) (by omega) (by omega) z) (by omega)))
                refine lv_iconst (v := 0) hx hb dX3_check_170 (by decide) ?_
                refine lv_iadd hx hb dX3_check_171 ?_
                refine r_topv (v := nI (g)) (Int32.add_zero _) ?_
                refine lv_istore (lv' := [(4, .int (nI g)), (0, .ref y0), (1, .int (nI kn)), (2, .int (ka 1099 34)), (3, .int (nI (2 * N))), (5, .int (nI i))]) hx hb dX3_check_172 hl (by decide) rfl (fun ls hl => ?_)
                refine lv_iinc (v := nI (i + 1)) (lv' := [(5, .int (nI (i + 1))), (4, .int (nI g)), (0, .ref y0), (1, .int (nI kn)), (2, .int (ka 1099 34)), (3, .int (nI (2 * N)))]) hx hb dX3_check_174 hl (k := 5) rfl (nI_1 _) (by decide) rfl (fun ls hl => ?_)
                refine lv_goto (tgt := 80) hx hb dX3_check_177 (by decide) ?_
                have hch := hcase.elim (fun q => q.2) (fun q => absurd n94 q.1)
                have hstep := chT_s (tells := ka 1033) (t := (cpT (ka 1001) (ka 1000))) (many := wt) (f := N - (i + 1)) (k := i)
                rw [show N - i = (N - (i + 1)) + 1 by omega] at hch
                rw [hch] at hstep
                exact ih_loop (i + 1) g ka_10 (by omega) (by omega) (by omega) hT10 has10 (Or.inr ⟨by omega, by rw [hstep, if_pos (by exact fun q => absurd q.1 (by omega))]; exact n94.symm⟩) hB_10 _ _ _ (lv_sub hl [2, 3, 4, 5, 1, 0] rfl) hM
              · have n106 : g < wt := ntNle (by rw [hwt]) rfl (by omega) (by omega) c106
                refine lv_aload_n hx hb dX3_check_109 rfl (lv_at hl 0 rfl) ?_
                refine r_getq B hM 33 hL.1 rfl (by decide) rfl rfl (hL.2 33 _ _ rfl).1 q1415 dX3_check_110 ?_
                refine lv_iload hx hb dX3_check_113 (lv_at hl 4 rfl) ?_
                refine r_ild B hM g (hL.2 33 _ _ rfl).2 rfl (by omega) (by decide) dX3_check_115 ?_
                refine r_topv (v := ka 1033 g) (by rw [hB_10 1033 (by decide), up2_a _ _ _ (by decide)]) ?_
                refine lv_aload_n hx hb dX3_check_116 rfl (lv_at hl 0 rfl) ?_
                refine k_pe (v := allT (ka_10 1000)) (r_V (As := []) (rest := [.int (ka 1033 g), .int (nI g)]) B hM hL.1 rfl rfl (ok_fullOfAll hL (by rw [hT10]; exact ((hoursT_seq hR0 (i + 1)).rok hR0))) cal_X3_fullOfAll q1653 rfl hl.1 (Nat.le_of_ble_eq_true rfl) dX3_check_117 ⟨Nat.le_of_ble_eq_true rfl, Nat.le_of_ble_eq_true rfl⟩ ⟨Nat.le_of_ble_eq_true rfl, Nat.le_of_ble_eq_true rfl⟩) hM (fun H locs hM => ?_)
                refine r_topv (v := allT (hoursT (i + 1) (cpT (ka 1001) (ka 1000)))) (by rw [hT10]) ?_
                refine lv_icmp_ne (tgt := 127) hx hb dX3_check_120 (by decide) (fun c120 => ?_) (fun c120 => ?_)
                · refine lv_iconst (v := 0) hx hb dX3_check_127 (by decide) ?_
                  refine lv_iadd hx hb dX3_check_128 ?_
                  refine r_topv (v := nI (g)) (Int32.add_zero _) ?_
                  refine lv_istore (lv' := [(4, .int (nI g)), (0, .ref y0), (1, .int (nI kn)), (2, .int (ka 1099 34)), (3, .int (nI (2 * N))), (5, .int (nI i))]) hx hb dX3_check_129 hl (by decide) rfl (fun ls hl => ?_)
                  refine lv_iload hx hb dX3_check_131 (lv_at hl 0 rfl) ?_
                  refine lv_iload hx hb dX3_check_133 (lv_at hl 0 rfl) ?_
                  refine lv_iconst (v := 2) hx hb dX3_check_135 (by decide) ?_
                  refine lv_iload hx hb dX3_check_136 (lv_at hl 5 rfl) ?_
                  refine lv_imul hx hb dX3_check_138 ?_
                  refine lv_iconst (v := 1) hx hb dX3_check_139 (by decide) ?_
                  refine lv_iadd hx hb dX3_check_140 ?_
                  refine lv_icmp_ne (tgt := 170) hx hb dX3_check_141 (by decide) (fun c141 => ?_) (fun cZ => absurd cZ (fun z => absurd (ntEq (a := g) (b := 2 * i + 1) rfl (by simp only [nA, nMu, nL]) (by omega) (by omega) z) (by omega)))
                  refine lv_iconst (v := 0) hx hb dX3_check_170 (by decide) ?_
                  refine lv_iadd hx hb dX3_check_171 ?_
                  refine r_topv (v := nI (g)) (Int32.add_zero _) ?_
                  refine lv_istore (lv' := [(4, .int (nI g)), (0, .ref y0), (1, .int (nI kn)), (2, .int (ka 1099 34)), (3, .int (nI (2 * N))), (5, .int (nI i))]) hx hb dX3_check_172 hl (by decide) rfl (fun ls hl => ?_)
                  refine lv_iinc (v := nI (i + 1)) (lv' := [(5, .int (nI (i + 1))), (4, .int (nI g)), (0, .ref y0), (1, .int (nI kn)), (2, .int (ka 1099 34)), (3, .int (nI (2 * N)))]) hx hb dX3_check_174 hl (k := 5) rfl (nI_1 _) (by decide) rfl (fun ls hl => ?_)
                  refine lv_goto (tgt := 80) hx hb dX3_check_177 (by decide) ?_
                  have hch := hcase.elim (fun q => q.2) (fun q => absurd n94 q.1)
                  have hstep := chT_s (tells := ka 1033) (t := (cpT (ka 1001) (ka 1000))) (many := wt) (f := N - (i + 1)) (k := i)
                  rw [show N - i = (N - (i + 1)) + 1 by omega] at hch
                  rw [hch] at hstep
                  exact ih_loop (i + 1) g ka_10 (by omega) (by omega) (by omega) hT10 has10 (Or.inr ⟨by omega, by rw [hstep, if_pos (by exact fun q => c120 (by rw [n94]; exact q.2))]; exact n94.symm⟩) hB_10 _ _ _ (lv_sub hl [2, 3, 4, 5, 1, 0] rfl) hM
                · refine lv_iconst (v := 1) hx hb dX3_check_123 (by decide) ?_
                  refine lv_goto (tgt := 128) hx hb dX3_check_124 (by decide) ?_
                  refine lv_iadd hx hb dX3_check_128 ?_
                  refine r_topv (v := nI (g + 1)) (by simp only [nA, nL]) ?_
                  refine lv_istore (lv' := [(4, .int (nI (g + 1))), (0, .ref y0), (1, .int (nI kn)), (2, .int (ka 1099 34)), (3, .int (nI (2 * N))), (5, .int (nI i))]) hx hb dX3_check_129 hl (by decide) rfl (fun ls hl => ?_)
                  refine lv_iload hx hb dX3_check_131 (lv_at hl 0 rfl) ?_
                  refine lv_iload hx hb dX3_check_133 (lv_at hl 0 rfl) ?_
                  refine lv_iconst (v := 2) hx hb dX3_check_135 (by decide) ?_
                  refine lv_iload hx hb dX3_check_136 (lv_at hl 5 rfl) ?_
                  refine lv_imul hx hb dX3_check_138 ?_
                  refine lv_iconst (v := 1) hx hb dX3_check_139 (by decide) ?_
                  refine lv_iadd hx hb dX3_check_140 ?_
                  refine lv_icmp_ne (tgt := 170) hx hb dX3_check_141 (by decide) (fun cZ => absurd (by rw [n94]; simp only [nA, nMu, nL]) cZ) (fun c141 => ?_)
                  refine lv_iload hx hb dX3_check_144 (lv_at hl 0 rfl) ?_
                  refine lv_iload_n hx hb dX3_check_146 rfl (lv_at hl 3 rfl) ?_
                  refine lv_icmp_ge (tgt := 170) hx hb dX3_check_147 (by decide) (fun c147 => ?_) (fun c147 => ?_)
                  · have n147 : wt ≤ g + 1 := ntLe (by rw [hwt]) rfl (by omega) (by omega) c147
                    refine lv_iconst (v := 0) hx hb dX3_check_170 (by decide) ?_
                    refine lv_iadd hx hb dX3_check_171 ?_
                    refine r_topv (v := nI (g + 1)) (Int32.add_zero _) ?_
                    refine lv_istore (lv' := [(4, .int (nI (g + 1))), (0, .ref y0), (1, .int (nI kn)), (2, .int (ka 1099 34)), (3, .int (nI (2 * N))), (5, .int (nI i))]) hx hb dX3_check_172 hl (by decide) rfl (fun ls hl => ?_)
                    refine lv_iinc (v := nI (i + 1)) (lv' := [(5, .int (nI (i + 1))), (4, .int (nI (g + 1))), (0, .ref y0), (1, .int (nI kn)), (2, .int (ka 1099 34)), (3, .int (nI (2 * N)))]) hx hb dX3_check_174 hl (k := 5) rfl (nI_1 _) (by decide) rfl (fun ls hl => ?_)
                    refine lv_goto (tgt := 80) hx hb dX3_check_177 (by decide) ?_
                    have hch := hcase.elim (fun q => q.2) (fun q => absurd n94 q.1)
                    have hstep := chT_s (tells := ka 1033) (t := (cpT (ka 1001) (ka 1000))) (many := wt) (f := N - (i + 1)) (k := i)
                    rw [show N - i = (N - (i + 1)) + 1 by omega] at hch
                    rw [hch] at hstep
                    exact ih_loop (i + 1) (g + 1) ka_10 (by omega) (by omega) (by omega) hT10 has10 (Or.inr ⟨by omega, by rw [hstep, if_neg (fun q => q ⟨by omega, by rw [← n94]; exact c120⟩), if_pos (by exact fun q => absurd q.1 (by omega))]; omega⟩) hB_10 _ _ _ (lv_sub hl [2, 3, 4, 5, 1, 0] rfl) hM
                  · have n147 : g + 1 < wt := ntNle (by rw [hwt]) rfl (by omega) (by omega) c147
                    refine lv_aload_n hx hb dX3_check_150 rfl (lv_at hl 1 rfl) ?_
                    refine r_getq B hM 33 hL.1 rfl (by decide) rfl rfl (hL.2 33 _ _ rfl).1 q1415 dX3_check_151 ?_
                    refine lv_iload hx hb dX3_check_154 (lv_at hl 0 rfl) ?_
                    refine r_ild B hM (g + 1) (hL.2 33 _ _ rfl).2 rfl (by omega) (by decide) dX3_check_156 ?_
                    refine r_topv (v := ka 1033 (g + 1)) (by rw [hB_10 1033 (by decide), up2_a _ _ _ (by decide)]) ?_
                    refine lv_aload_n hx hb dX3_check_157 rfl (lv_at hl 1 rfl) ?_
                    refine r_getq B hM 0 hL.1 rfl (by decide) rfl rfl (hL.2 0 _ _ rfl).1 q1382 dX3_check_158 ?_
                    refine lv_iconst (v := 5) hx hb dX3_check_161 (by decide) ?_
                    refine r_ild B hM 5 (hL.2 0 _ _ rfl).2 rfl (by decide) (by decide) dX3_check_162 ?_
                    refine r_topv (v := (hoursT (i + 1) (cpT (ka 1001) (ka 1000))) 5) (congrFun hT10 _) ?_
                    refine lv_icmp_ne (tgt := 170) hx hb dX3_check_163 (by decide) (fun c163 => ?_) (fun c163 => ?_)
                    · refine lv_iconst (v := 0) hx hb dX3_check_170 (by decide) ?_
                      refine lv_iadd hx hb dX3_check_171 ?_
                      refine r_topv (v := nI (g + 1)) (Int32.add_zero _) ?_
                      refine lv_istore (lv' := [(4, .int (nI (g + 1))), (0, .ref y0), (1, .int (nI kn)), (2, .int (ka 1099 34)), (3, .int (nI (2 * N))), (5, .int (nI i))]) hx hb dX3_check_172 hl (by decide) rfl (fun ls hl => ?_)
                      refine lv_iinc (v := nI (i + 1)) (lv' := [(5, .int (nI (i + 1))), (4, .int (nI (g + 1))), (0, .ref y0), (1, .int (nI kn)), (2, .int (ka 1099 34)), (3, .int (nI (2 * N)))]) hx hb dX3_check_174 hl (k := 5) rfl (nI_1 _) (by decide) rfl (fun ls hl => ?_)
                      refine lv_goto (tgt := 80) hx hb dX3_check_177 (by decide) ?_
                      have hch := hcase.elim (fun q => q.2) (fun q => absurd n94 q.1)
                      have hstep := chT_s (tells := ka 1033) (t := (cpT (ka 1001) (ka 1000))) (many := wt) (f := N - (i + 1)) (k := i)
                      rw [show N - i = (N - (i + 1)) + 1 by omega] at hch
                      rw [hch] at hstep
                      exact ih_loop (i + 1) (g + 1) ka_10 (by omega) (by omega) (by omega) hT10 has10 (Or.inr ⟨by omega, by rw [hstep, if_neg (fun q => q ⟨by omega, by rw [← n94]; exact c120⟩), if_pos (by exact fun q => c163 (by rw [n94]; exact q.2))]; omega⟩) hB_10 _ _ _ (lv_sub hl [2, 3, 4, 5, 1, 0] rfl) hM
                    · refine lv_iconst (v := 1) hx hb dX3_check_166 (by decide) ?_
                      refine lv_goto (tgt := 171) hx hb dX3_check_167 (by decide) ?_
                      refine lv_iadd hx hb dX3_check_171 ?_
                      refine r_topv (v := nI (g + 1 + 1)) (by simp only [nA, nL]) ?_
                      refine lv_istore (lv' := [(4, .int (nI (g + 1 + 1))), (0, .ref y0), (1, .int (nI kn)), (2, .int (ka 1099 34)), (3, .int (nI (2 * N))), (5, .int (nI i))]) hx hb dX3_check_172 hl (by decide) rfl (fun ls hl => ?_)
                      refine lv_iinc (v := nI (i + 1)) (lv' := [(5, .int (nI (i + 1))), (4, .int (nI (g + 1 + 1))), (0, .ref y0), (1, .int (nI kn)), (2, .int (ka 1099 34)), (3, .int (nI (2 * N)))]) hx hb dX3_check_174 hl (k := 5) rfl (nI_1 _) (by decide) rfl (fun ls hl => ?_)
                      refine lv_goto (tgt := 80) hx hb dX3_check_177 (by decide) ?_
                      have hch := hcase.elim (fun q => q.2) (fun q => absurd n94 q.1)
                      have hstep := chT_s (tells := ka 1033) (t := (cpT (ka 1001) (ka 1000))) (many := wt) (f := N - (i + 1)) (k := i)
                      rw [show N - i = (N - (i + 1)) + 1 by omega] at hch
                      rw [hch] at hstep
                      exact ih_loop (i + 1) (g + 1 + 1) ka_10 (by omega) (by omega) (by omega) hT10 has10 (Or.inl ⟨by omega, by rw [hstep, if_neg (fun q => q ⟨by omega, by rw [← n94]; exact c120⟩), if_neg (fun q => q ⟨by omega, by rw [← n94]; exact c163⟩)]⟩) hB_10 _ _ _ (lv_sub hl [2, 3, 4, 5, 1, 0] rfl) hM
      refine lv_iconst (v := 0) hx hb dX3_check_74 (by decide) ?_
      refine lv_istore (lv' := [(4, .int 0), (3, .int (nI (2 * N))), (2, .int (ka 1099 34)), (0, .ref y0), (1, .int (nI kn))]) hx hb dX3_check_75 hl (by decide) rfl (fun ls hl => ?_)
      refine lv_iconst (v := 0) hx hb dX3_check_77 (by decide) ?_
      refine lv_istore (lv' := [(5, .int 0), (4, .int 0), (3, .int (nI (2 * N))), (2, .int (ka 1099 34)), (0, .ref y0), (1, .int (nI kn))]) hx hb dX3_check_78 hl (by decide) rfl (fun ls hl => ?_)
      exact loop (N + 1) 0 0 ka_4 (by omega) (Nat.zero_le _) (Nat.le_refl _) hT2 has2 (Or.inl ⟨rfl, rfl⟩) hB_4 _ _ _ (lv_sub hl [4, 5, 3, 2, 1, 0] rfl) hM
    · refine lv_ldcw hx hb B.2.2.2.1 (B.ts _ q1835) dX3_check_30 ?_
      refine r_iret B hr hM dX3_check_33 ?_
      constructor
      · show _ = A_check (sg ka) n; unfold A_check; rw [if_neg (fun q => q b14), if_pos (by exact c27)]
      · refine Rel.of ?_; rw [eka_1, sg_up2 _ 99]; rfl
  · refine lv_if_ne (tgt := 23) hx hb dX3_check_17 (by decide) (fun cZ => absurd (by decide) cZ) (fun c17 => ?_)
    refine lv_ldc hx hb B.2.2.2.1 (B.ts _ q1496) dX3_check_20 ?_
    refine r_iret B hr hM dX3_check_22 ?_
    constructor
    · simp only [A_check]; rw [if_pos b14]
    · refine Rel.of ?_; rw [eka_1, sg_up2 _ 99]; rfl
theorem rw1_s (t : Row) (i : Nat) (v : Int32) : rw1 t i v i = v := va_up_self _ _ _
theorem rw1_n {t : Row} {i j : Nat} (v : Int32) (h : j ≠ i) : rw1 t i v j = t j := va_up_ne _ _ h
theorem rw1_rw1 (t : Row) (i : Nat) (v w : Int32) : rw1 (rw1 t i v) i w = rw1 t i w := by
  funext j
  by_cases h : j = i
  · subst h; rw [rw1_s, rw1_s]
  · rw [rw1_n _ h, rw1_n _ h, rw1_n _ h]
theorem rw1_nC {t : Row} (v : Int32) : nC (rw1 t 0 v) = nC t := by unfold nC; rw [rw1_n _ (by decide)]
theorem dl_ix {n : Nat} (h : n < 8) : (7 : Int32) + 6 * nI n + 3 + (nI n - nI n / 3 * 3) = nI (7 + 6 * n + 3 + n % 3) := by
  have : ∀ k : Fin 8, (7 : Int32) + 6 * nI k.val + 3 + (nI k.val - nI k.val / 3 * 3) = nI (7 + 6 * k.val + 3 + k.val % 3) := by decide
  exact this ⟨n, h⟩
theorem Rok.come {t : Row} (hR : Rok t) (h8 : nC t < 8) (kd fl lp : Int32) : Rok (comeT t kd fl lp) ∧ nC (comeT t kd fl lp) = nC t + 1 := by
  have e1 : comeT t kd fl lp 1 = nI (nC t + 1) := by unfold comeT; rw [if_pos rfl, hR.1.1]; exact nI_1 _
  have n1 : nC (comeT t kd fl lp) = nC t + 1 := by unfold nC; rw [e1]; exact nI_clamp (by unfold nC at *; omega)
  have e : ∀ i, i ≠ 1 → (i < 7 ∨ 55 ≤ i) → comeT t kd fl lp i = t i := fun i h1 h2 => by
    unfold comeT; rw [if_neg h1, if_neg (by omega), if_neg (by omega), if_neg (by omega), if_neg (by omega)]
  have n2 : nP (comeT t kd fl lp) = nP t := by unfold nP; rw [e _ (by omega) (by omega)]
  have n3 : nX (comeT t kd fl lp) = nX t := by unfold nX; rw [e _ (by omega) (by omega)]
  obtain ⟨⟨a1, a2⟩, ⟨b1, b2⟩, ⟨c1, c2⟩, d, f⟩ := hR
  refine ⟨⟨⟨by rw [n1]; exact e1, by rw [n1]; omega⟩, ⟨by rw [e _ (by omega) (by omega), n2]; exact b1, by rw [n2]; exact b2⟩, ⟨by rw [e _ (by omega) (by omega), n3]; exact c1, by rw [n3]; exact c2⟩, fun q hq => ?_, fun x hx' => ?_⟩, n1⟩
  · rw [n2] at hq
    have p1 : pA (comeT t kd fl lp) q = pA t q := by unfold pA; rw [e _ (by omega) (by omega)]
    have p2 : pB (comeT t kd fl lp) q = pB t q := by unfold pB; rw [e _ (by omega) (by omega)]
    rw [e _ (by omega) (by omega), e _ (by omega) (by omega), p1, p2, n1]
    obtain ⟨q1, q2, q3, q4⟩ := d q hq
    exact ⟨q1, by omega, q3, by omega⟩
  · rw [n3] at hx'
    have l1 : lenT (comeT t kd fl lp) x = lenT t x := by unfold lenT; rw [e _ (by omega) (by omega)]
    have l2 : codeT (comeT t kd fl lp) x = codeT t x := by
      unfold codeT; rw [l1]; exact List.map_congr_left fun k _ => e _ (by omega) (by omega)
    obtain ⟨key, q1, q2, q3, q4⟩ := f x hx'
    exact ⟨key, q1, by rw [l1]; exact q2, by rw [l1, e _ (by omega) (by omega)]; exact q3, by rw [l2]; exact q4⟩
theorem Rok.rw {t : Row} (hR : Rok t) {i : Nat} (v : Int32) (hi : i = 0 ∨ i = 3 ∨ i = 4 ∨ i = 5 ∨ (7 ≤ i ∧ i < 55)) : Rok (rw1 t i v) :=
  hR.of (rw1_n _ (by omega)) (rw1_n _ (by omega)) (rw1_n _ (by omega)) (fun q w _ _ => rw1_n _ (by omega)) (fun j _ => rw1_n _ (by omega))
theorem Rok.dl {t : Row} (hR : Rok t) (h8 : nC t < 8) : Rok (dl1 t) ∧ nC (dl1 t) = nC t + 1 := by
  unfold dl1
  have h1 := (hR.rw (i := 0) (drawT (drawT (drawT (t 0)))) (Or.inl rfl)).come (by rw [rw1_nC]; exact h8) (rem (z8 (drawT (t 0))) 6) (rem (z8 (drawT (drawT (t 0)))) 60) (1 + rem (z8 (drawT (drawT (drawT (t 0))))) 60)
  rw [rw1_nC] at h1
  refine ⟨(h1.1.rw _ (Or.inl rfl)).rw _ (by omega), ?_⟩
  rw [← h1.2]
  unfold nC
  rw [rw1_n _ (by omega), rw1_n _ (by omega)]
def dlT (i : Nat) (t : Row) : Row := itn (fun _ t => dl1 t) i t
theorem dlT_rok {t : Row} (hR : Rok t) : ∀ {i : Nat}, nC t + i ≤ 8 → Rok (dlT i t) ∧ nC (dlT i t) = nC t + i
  | 0, _ => ⟨hR, rfl⟩
  | i + 1, h => by
    obtain ⟨h1, h2⟩ := dlT_rok hR (i := i) (by omega)
    obtain ⟨h3, h4⟩ := h1.dl (by omega)
    exact ⟨h3, by rw [show nC (dlT (i + 1) t) = nC (dl1 (dlT i t)) from rfl, h4, h2]; omega⟩
set_option maxHeartbeats 4000000 in
theorem ok_deal (hL : LayM th rh y0 ay) (hR : Rok (ka 1000)) (n : Int32) : Met l yX3_deal (ws_ yX3_deal cX3_deal 6 (some .int)) (RM 3 0 0) (Pc_ G [.ref y0, .int n] th rh ph ka) (Qi G th rh ph (fun r ka' => r = A_deal (sg ka) n ∧ Rel (S_deal (sg ka) n) (sg ka'))) 0 0 (frG G) := by
  refine m_of (by decide) (Nat.le_of_ble_eq_true rfl) ?_
  intro p_ e_ s_ m_ below_ meth_ c_ B hr hnm ls hl hM
  have hx := B.1
  have hb := B.2.1
  have hM := hM
  have h8 := hR.1.2
  have h13 := hR.2.1.2
  have h14 := hR.2.2.1.2
  refine lv_iload_n hx hb dX3_deal_0 rfl (lv_at hl 1 rfl) ?_
  refine lv_iconst (v := 1) hx hb dX3_deal_1 (by decide) ?_
  refine lv_bipush (v := 8) hx hb dX3_deal_2 (by decide) ?_
  refine k_pb (r_S (As := [.int n, .int 1, .int 8]) (rest := []) B hM (ok_in n 1 8) cal_X3_in q1493 rfl hl.1 (Nat.le_of_ble_eq_true rfl) dX3_deal_4 ⟨Nat.le_of_ble_eq_true rfl, Nat.le_of_ble_eq_true rfl⟩ ⟨Nat.le_of_ble_eq_true rfl, Nat.le_of_ble_eq_true rfl⟩) hM (fun H locs b4 hM => ?_) (fun H locs b4 hM => ?_)
  · refine lv_if_ne (tgt := 13) hx hb dX3_deal_7 (by decide) (fun c7 => ?_) (fun cZ => absurd cZ (by decide))
    obtain ⟨kn, hkna, hknb, rfl⟩ := (btw_iff (a := 1) (b := 8) (by decide) (by decide)).mp b4
    have hclkn : cl (nI kn) = kn := cl_nI (by omega)
    have loop : ∀ (fu_loop : Nat) (i : Nat) (kb : Ka), kn - i < fu_loop → (i ≤ kn) → (nC (ka 1000) + i ≤ 8) → (kb 1000 = dlT i (ka 1000)) → (But [1000] ka kb) → ∀ (ls : Array Slot) (H : Heap) (locs : List Loc), lv_has ls 6 [(0, .ref y0), (1, .int (nI kn)), (2, .int (nI i))] → Md G th rh ph kb H locs → W p_ l e_ (RM 3 0 0) s_ m_ ([.ref y0, .int (nI kn)].toArray) below_ meth_ c_ H locs 0 0 (MQ below_ (Qi G th rh ph (fun r ka' => r = A_deal (sg ka) (nI kn) ∧ Rel (S_deal (sg ka) (nI kn)) (sg ka'))) ([.ref y0, .int (nI kn)].toArray) s_ 0 0 (frG G)) (F0 m_ 15 ls []) := by
      intro fu_loop
      induction fu_loop with
      | zero => intro i kb hfu; exact absurd hfu (Nat.not_lt_zero _)
      | succ fu_loop ih_loop =>
        intro i kb hfu_loop hi hi8 hT hbu ls H locs hl hM
        obtain ⟨hRu, hnu⟩ := dlT_rok hR (i := i) hi8
        obtain ⟨m, hm⟩ : ∃ m : Nat, m = nC (ka 1000) + i := ⟨_, rfl⟩
        have hk1 : dlT i (ka 1000) 1 = nI m := by rw [hm, ← hnu]; exact hRu.1.1
        refine lv_iload_n hx hb dX3_deal_15 rfl (lv_at hl 2 rfl) ?_
        refine lv_iload_n hx hb dX3_deal_16 rfl (lv_at hl 1 rfl) ?_
        refine lv_icmp_ge (tgt := 100) hx hb dX3_deal_17 (by decide) (fun c17 => ?_) (fun c17 => ?_)
        · have n17 : kn ≤ i := ntLe rfl rfl (by omega) (by omega) c17
          refine lv_iload_n hx hb dX3_deal_100 rfl (lv_at hl 2 rfl) ?_
          refine r_iret B hr hM dX3_deal_101 ?_
          have hdn : dlN (sg ka) (nI kn) = i := by unfold dlN; rw [hclkn]; show min kn (8 - nC (ka 1000)) = i; omega
          have hbt : btw (nI kn) 1 8 := b4
          constructor
          · show _ = A_deal (sg ka) (nI kn); unfold A_deal; rw [if_pos hbt, hdn]
          · refine Rel.of ?_; rw [S_deal, if_pos hbt, hdn]; show up1 (sg ka) 0 (dlT i (ka 1000)) = sg kb; rw [← hT, ← sg_up1 ka 0, ← But.eq1 hbu (fun _ => rfl)]
        · have n17 : i < kn := ntNle rfl rfl (by omega) (by omega) c17
          refine lv_aload_n hx hb dX3_deal_20 rfl (lv_at hl 0 rfl) ?_
          refine r_getq B hM 0 hL.1 rfl (by decide) rfl rfl (hL.2 0 _ _ rfl).1 q1382 dX3_deal_21 ?_
          refine lv_iconst (v := 1) hx hb dX3_deal_24 (by decide) ?_
          refine r_ild B hM 1 (hL.2 0 _ _ rfl).2 rfl (by decide) (by decide) dX3_deal_25 ?_
          refine r_topv (v := (dlT i (ka 1000)) 1) (congrFun hT _) ?_
          refine lv_bipush (v := 8) hx hb dX3_deal_26 (by decide) ?_
          refine lv_icmp_ge (tgt := 100) hx hb dX3_deal_28 (by decide) (fun c28 => ?_) (fun c28 => ?_)
          · have n28 : 8 ≤ m := ntLe rfl (by rw [hk1]) (by omega) (by omega) c28
            refine lv_iload_n hx hb dX3_deal_100 rfl (lv_at hl 2 rfl) ?_
            refine r_iret B hr hM dX3_deal_101 ?_
            have hdn : dlN (sg ka) (nI kn) = i := by unfold dlN; rw [hclkn]; show min kn (8 - nC (ka 1000)) = i; omega
            have hbt : btw (nI kn) 1 8 := b4
            constructor
            · show _ = A_deal (sg ka) (nI kn); unfold A_deal; rw [if_pos hbt, hdn]
            · refine Rel.of ?_; rw [S_deal, if_pos hbt, hdn]; show up1 (sg ka) 0 (dlT i (ka 1000)) = sg kb; rw [← hT, ← sg_up1 ka 0, ← But.eq1 hbu (fun _ => rfl)]
          · have n28 : m < 8 := ntNle rfl (by rw [hk1]) (by omega) (by omega) c28
            refine lv_aload_n hx hb dX3_deal_31 rfl (lv_at hl 0 rfl) ?_
            refine k_i (r_V (As := []) (rest := []) B hM hL.1 rfl rfl (ok_draw hL) cal_X3_draw q1616 rfl hl.1 (Nat.le_of_ble_eq_true rfl) dX3_deal_32 ⟨Nat.le_of_ble_eq_true rfl, Nat.le_of_ble_eq_true rfl⟩ ⟨Nat.le_of_ble_eq_true rfl, Nat.le_of_ble_eq_true rfl⟩) hM (fun r_1 ka_2 H locs p_3 hM => ?_)
            obtain ⟨hr2, hk2⟩ := p_3
            rw [hT] at hr2 hk2
            have hT2 : ka_2 1000 = rw1 (dlT i (ka 1000)) 0 (drawT (dlT i (ka 1000) 0)) := by rw [hk2, up2_row, hT]; exact rfl
            have hq : But [1000] kb ka_2 := by rw [hk2]; exact But.up (by decide)
            subst hr2
            have hB_2 : But [1000] ka ka_2 := But.trans hbu (But.mono hq (by decide))
            refine lv_bipush (v := 6) hx hb dX3_deal_35 (by decide) ?_
            refine lv_irem hx hb dX3_deal_37 (by decide) ?_
            refine lv_topi (fun v_4 ev_4 => ?_)
            refine lv_istore_n (lv' := [(3, .int v_4), (0, .ref y0), (1, .int (nI kn)), (2, .int (nI i))]) hx hb dX3_deal_38 rfl hl (by decide) rfl (fun ls hl => ?_)
            refine lv_aload_n hx hb dX3_deal_39 rfl (lv_at hl 1 rfl) ?_
            refine k_i (r_V (As := []) (rest := []) B hM hL.1 rfl rfl (ok_draw hL) cal_X3_draw q1616 rfl hl.1 (Nat.le_of_ble_eq_true rfl) dX3_deal_40 ⟨Nat.le_of_ble_eq_true rfl, Nat.le_of_ble_eq_true rfl⟩ ⟨Nat.le_of_ble_eq_true rfl, Nat.le_of_ble_eq_true rfl⟩) hM (fun r_5 ka_6 H locs p_7 hM => ?_)
            obtain ⟨hr6, hk6⟩ := p_7
            rw [hT2, rw1_s] at hr6 hk6
            have hT6 : ka_6 1000 = rw1 (dlT i (ka 1000)) 0 (drawT (drawT (dlT i (ka 1000) 0))) := by rw [hk6, up2_row, hT2]; exact rw1_rw1 _ _ _ _
            have hq : But [1000] ka_2 ka_6 := by rw [hk6]; exact But.up (by decide)
            subst hr6
            have hB_6 : But [1000] ka ka_6 := But.trans hB_2 (But.mono hq (by decide))
            refine lv_bipush (v := 60) hx hb dX3_deal_43 (by decide) ?_
            refine lv_irem hx hb dX3_deal_45 (by decide) ?_
            refine lv_topi (fun v_8 ev_8 => ?_)
            refine lv_istore (lv' := [(4, .int v_8), (3, .int v_4), (0, .ref y0), (1, .int (nI kn)), (2, .int (nI i))]) hx hb dX3_deal_46 hl (by decide) rfl (fun ls hl => ?_)
            refine lv_aload_n hx hb dX3_deal_48 rfl (lv_at hl 2 rfl) ?_
            refine lv_iload_n hx hb dX3_deal_49 rfl (lv_at hl 1 rfl) ?_
            refine lv_iload hx hb dX3_deal_50 (lv_at hl 0 rfl) ?_
            refine lv_iconst (v := 1) hx hb dX3_deal_52 (by decide) ?_
            refine lv_aload_n hx hb dX3_deal_53 rfl (lv_at hl 2 rfl) ?_
            refine k_i (r_V (As := []) (rest := [.int 1, .int v_8, .int v_4, .ref y0]) B hM hL.1 rfl rfl (ok_draw hL) cal_X3_draw q1616 rfl hl.1 (Nat.le_of_ble_eq_true rfl) dX3_deal_54 ⟨Nat.le_of_ble_eq_true rfl, Nat.le_of_ble_eq_true rfl⟩ ⟨Nat.le_of_ble_eq_true rfl, Nat.le_of_ble_eq_true rfl⟩) hM (fun r_9 ka_10 H locs p_11 hM => ?_)
            obtain ⟨hr10, hk10⟩ := p_11
            rw [hT6, rw1_s] at hr10 hk10
            have hT10 : ka_10 1000 = rw1 (dlT i (ka 1000)) 0 (drawT (drawT (drawT (dlT i (ka 1000) 0)))) := by rw [hk10, up2_row, hT6]; exact rw1_rw1 _ _ _ _
            have hq : But [1000] ka_6 ka_10 := by rw [hk10]; exact But.up (by decide)
            subst hr10
            have hB_10 : But [1000] ka ka_10 := But.trans hB_6 (But.mono hq (by decide))
            refine lv_bipush (v := 60) hx hb dX3_deal_57 (by decide) ?_
            refine lv_irem hx hb dX3_deal_59 (by decide) ?_
            refine lv_iadd hx hb dX3_deal_60 ?_
            refine k_i (r_V (As := [.int v_4, .int v_8, .int ((1 : Int32) + ((z8 (drawT (drawT (drawT (dlT i (ka 1000) 0))))) - (z8 (drawT (drawT (drawT (dlT i (ka 1000) 0))))) / 60 * 60))]) (rest := []) B hM hL.1 rfl rfl (ok_comes hL (by rw [hT10]; exact (hRu.rw _ (Or.inl rfl))) (by rw [hT10, rw1_nC]; omega) v_4 v_8 ((1 : Int32) + ((z8 (drawT (drawT (drawT (dlT i (ka 1000) 0))))) - (z8 (drawT (drawT (drawT (dlT i (ka 1000) 0))))) / 60 * 60))) cal_X3_comes q1498 rfl hl.1 (Nat.le_of_ble_eq_true rfl) dX3_deal_61 ⟨Nat.le_of_ble_eq_true rfl, Nat.le_of_ble_eq_true rfl⟩ ⟨Nat.le_of_ble_eq_true rfl, Nat.le_of_ble_eq_true rfl⟩) hM (fun r_12 ka_13 H locs p_14 hM => ?_)
            obtain ⟨hr13, hk13⟩ := p_14
            rw [hT10] at hr13 hk13
            rw [rw1_nC, hnu] at hr13
            subst hr13
            have hT13 : ka_13 1000 = comeT (rw1 (dlT i (ka 1000)) 0 (drawT (drawT (drawT (dlT i (ka 1000) 0))))) v_4 v_8 ((1 : Int32) + ((z8 (drawT (drawT (drawT (dlT i (ka 1000) 0))))) - (z8 (drawT (drawT (drawT (dlT i (ka 1000) 0))))) / 60 * 60)) := by rw [hk13, up1_s]
            have hcm0 : (comeT (rw1 (dlT i (ka 1000)) 0 (drawT (drawT (drawT (dlT i (ka 1000) 0))))) v_4 v_8 ((1 : Int32) + ((z8 (drawT (drawT (drawT (dlT i (ka 1000) 0))))) - (z8 (drawT (drawT (drawT (dlT i (ka 1000) 0))))) / 60 * 60))) 0 = drawT (drawT (drawT (dlT i (ka 1000) 0))) := by unfold comeT; rw [if_neg (by omega), if_neg (by omega), if_neg (by omega), if_neg (by omega), if_neg (by omega), rw1_s]
            have hq : But [1000] ka_10 ka_13 := by rw [hk13]; exact fun a ha => up1_a _ _ (fun z => ha (List.mem_singleton.mpr z))
            have hB_13 : But [1000] ka ka_13 := But.trans hB_10 (But.mono hq (by decide))
            refine lv_istore (lv' := [(5, .int (nI (nC (ka 1000) + i))), (4, .int v_8), (3, .int v_4), (0, .ref y0), (1, .int (nI kn)), (2, .int (nI i))]) hx hb dX3_deal_64 hl (by decide) rfl (fun ls hl => ?_)
            refine lv_aload_n hx hb dX3_deal_66 rfl (lv_at hl 3 rfl) ?_
            refine r_getq B hM 0 hL.1 rfl (by decide) rfl rfl (hL.2 0 _ _ rfl).1 q1382 dX3_deal_67 ?_
            refine lv_bipush (v := 7) hx hb dX3_deal_70 (by decide) ?_
            refine lv_bipush (v := 6) hx hb dX3_deal_72 (by decide) ?_
            refine lv_iload hx hb dX3_deal_74 (lv_at hl 0 rfl) ?_
            refine lv_imul hx hb dX3_deal_76 ?_
            refine lv_iadd hx hb dX3_deal_77 ?_
            refine lv_iconst (v := 3) hx hb dX3_deal_78 (by decide) ?_
            refine lv_iadd hx hb dX3_deal_79 ?_
            refine lv_iload hx hb dX3_deal_80 (lv_at hl 0 rfl) ?_
            refine lv_iconst (v := 3) hx hb dX3_deal_82 (by decide) ?_
            refine lv_irem hx hb dX3_deal_83 (by decide) ?_
            refine lv_iadd hx hb dX3_deal_84 ?_
            refine r_topv (v := nI (7 + 6 * (nC (ka 1000) + i) + 3 + (nC (ka 1000) + i) % 3)) (dl_ix (by omega)) ?_
            refine lv_aload_n hx hb dX3_deal_85 rfl (lv_at hl 3 rfl) ?_
            refine k_i (r_V (As := []) (rest := [.int (nI (7 + 6 * (nC (ka 1000) + i) + 3 + (nC (ka 1000) + i) % 3)), .ref (ay 0)]) B hM hL.1 rfl rfl (ok_draw hL) cal_X3_draw q1616 rfl hl.1 (Nat.le_of_ble_eq_true rfl) dX3_deal_86 ⟨Nat.le_of_ble_eq_true rfl, Nat.le_of_ble_eq_true rfl⟩ ⟨Nat.le_of_ble_eq_true rfl, Nat.le_of_ble_eq_true rfl⟩) hM (fun r_15 ka_16 H locs p_17 hM => ?_)
            obtain ⟨hr16, hk16⟩ := p_17
            rw [hT13, hcm0] at hr16 hk16
            have hT16 : ka_16 1000 = rw1 (comeT (rw1 (dlT i (ka 1000)) 0 (drawT (drawT (drawT (dlT i (ka 1000) 0))))) v_4 v_8 ((1 : Int32) + ((z8 (drawT (drawT (drawT (dlT i (ka 1000) 0))))) - (z8 (drawT (drawT (drawT (dlT i (ka 1000) 0))))) / 60 * 60))) 0 (drawT (drawT (drawT (drawT (dlT i (ka 1000) 0))))) := by rw [hk16, up2_row, hT13]; exact rfl
            have hq : But [1000] ka_13 ka_16 := by rw [hk16]; exact But.up (by decide)
            subst hr16
            have hB_16 : But [1000] ka ka_16 := But.trans hB_13 (But.mono hq (by decide))
            refine lv_sipush (v := 300) hx hb dX3_deal_89 (by decide) ?_
            refine lv_irem hx hb dX3_deal_92 (by decide) ?_
            refine r_ist B hM (7 + 6 * (nC (ka 1000) + i) + 3 + (nC (ka 1000) + i) % 3) (hL.2 0 _ _ rfl).2 rfl (by omega) (by decide) dX3_deal_93 (fun ka_18 H locs eka_18 hM => ?_)
            have hB_18 : But [1000] ka ka_18 := But.trans hB_16 (by rw [eka_18]; exact But.up (by decide))
            refine lv_iinc (v := nI (i + 1)) (lv' := [(2, .int (nI (i + 1))), (5, .int (nI (nC (ka 1000) + i))), (4, .int v_8), (3, .int v_4), (0, .ref y0), (1, .int (nI kn))]) hx hb dX3_deal_94 hl (k := 5) rfl (nI_1 _) (by decide) rfl (fun ls hl => ?_)
            refine lv_goto (tgt := 15) hx hb dX3_deal_97 (by decide) ?_
            exact ih_loop (i + 1) ka_18 (by omega) (by omega) (by omega) (by rw [eka_18, up2_row, hT16, ev_4, ev_8]; show _ = dl1 (dlT i (ka 1000)); unfold dl1; rw [hnu]; rfl) hB_18 _ _ _ (lv_sub hl [4, 5, 0] rfl) hM
    refine lv_iconst (v := 0) hx hb dX3_deal_13 (by decide) ?_
    refine lv_istore_n (lv' := [(2, .int 0), (0, .ref y0), (1, .int (nI kn))]) hx hb dX3_deal_14 rfl hl (by decide) rfl (fun ls hl => ?_)
    exact loop (kn + 1) 0 ka (by omega) (Nat.zero_le _) h8 rfl But.refl _ _ _ (lv_sub hl [1, 2, 0] rfl) hM
  · refine lv_if_ne (tgt := 13) hx hb dX3_deal_7 (by decide) (fun cZ => absurd (by decide) cZ) (fun c7 => ?_)
    refine lv_ldc hx hb B.2.2.2.1 (B.ts _ q1496) dX3_deal_10 ?_
    refine r_iret B hr hM dX3_deal_12 ?_
    constructor
    · simp only [A_deal, sg0, sg1, sg7, sg25, sg26, sg27, sg28, sg29, sg30, sg31, sg33, sg99] <;> grind
    · refine Rel.of ?_; simp only [S_deal, sg0, sg1, sg7, sg25, sg26, sg27, sg28, sg29, sg30, sg31, sg33, sg99] <;> grind
end
