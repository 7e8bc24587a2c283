/-! the model: texts, the key -/
set_option maxRecDepth 100000
section
variable {l : Launch} {G : GG} {th : Th} {rh : Rh} {ph : Ph} {ka : Ka} {y0 : Nat} {ay : Nat → Nat}
set_option maxHeartbeats 4000000 in
theorem ok_takesKey (hL : LayM th rh y0 ay) (hK : Kok (sg ka)) {n : Nat} (hn96 : n ≤ 96) (hn : ka 1099 8 = nI n) {x f : Nat} (hxn : x ≤ n) (hfx : f ≤ x) (hx9 : ka 1099 9 = nI x) (hf10 : ka 1099 10 = nI f) : Met l yX3_takesKey (ws_ yX3_takesKey cX3_takesKey 5 (some .boolean)) (RM 3 0 0) (Pc_ G [.ref y0] th rh ph ka) (Qi G th rh ph (fun r ka' => (r = 0 ∧ (ka 1099 11 ≠ 1 ∨ ∀ v, v < 3 → ¬ kwT (ka 1007) f x v) ∧ ka' = ka) ∨ (r = 1 ∧ ka 1099 11 = 1 ∧ ∃ w, w < 3 ∧ kwT (ka 1007) f x w ∧ ka' = up1 ka 1099 (goF (ka 1007) (rw1 (ka 1099) 14 (nI w)))))) 0 0 (frG G) := by
  refine m_of (by decide) (Nat.le_of_ble_eq_true rfl) ?_
  intro p_ e_ s_ m_ below_ meth_ c_ B hr hnm ls hl hM
  have hx := B.1
  have hb := B.2.1
  have hM := hM
  refine lv_aload_n hx hb dX3_takesKey_0 rfl (lv_at hl 0 rfl) ?_
  refine r_geti B hM 11 hL.1 rfl (by decide) rfl rfl q1393 dX3_takesKey_1 ?_
  refine lv_iconst (v := 1) hx hb dX3_takesKey_4 (by decide) ?_
  refine lv_icmp_eq (tgt := 10) hx hb dX3_takesKey_5 (by decide) (fun c5 => ?_) (fun c5 => ?_)
  · have loop1 : ∀ (fu_loop1 : Nat) (w : Nat), 3 - w < fu_loop1 → (w ≤ 3) → (∀ v, v < w → ¬ kwT (ka 1007) f x v) → ∀ (ls : Array Slot) (H : Heap) (locs : List Loc), lv_has ls 5 [(0, .ref y0), (1, .int (nI w))] → Md G th rh ph ka H locs → W p_ l e_ (RM 3 0 0) s_ m_ ([.ref y0].toArray) below_ meth_ c_ H locs 0 0 (MQ below_ (Qi G th rh ph (fun r ka' => (r = 0 ∧ (ka 1099 11 ≠ 1 ∨ ∀ v, v < 3 → ¬ kwT (ka 1007) f x v) ∧ ka' = ka) ∨ (r = 1 ∧ ka 1099 11 = 1 ∧ ∃ w, w < 3 ∧ kwT (ka 1007) f x w ∧ ka' = up1 ka 1099 (goF (ka 1007) (rw1 (ka 1099) 14 (nI w)))))) ([.ref y0].toArray) s_ 0 0 (frG G)) (F0 m_ 12 ls []) := by
      intro fu_loop1
      induction fu_loop1 with
      | zero => intro w hfu; exact absurd hfu (Nat.not_lt_zero _)
      | succ fu_loop1 ih_loop1 =>
        intro w hfu_loop1 hw3 hno ls H locs hl hM
        refine lv_iload_n hx hb dX3_takesKey_12 rfl (lv_at hl 1 rfl) ?_
        refine lv_iconst (v := 3) hx hb dX3_takesKey_13 (by decide) ?_
        refine lv_icmp_ge (tgt := 127) hx hb dX3_takesKey_14 (by decide) (fun c14 => ?_) (fun c14 => ?_)
        · have n14 : 3 ≤ w := ntLe rfl rfl (by omega) (by omega) c14
          refine lv_iconst (v := 0) hx hb dX3_takesKey_127 (by decide) ?_
          refine r_zret B hr hM dX3_takesKey_128 (Or.inl rfl) ?_
          exact Or.inl ⟨rfl, Or.inr (fun v hv => hno v (by omega)), rfl⟩
        · have n14 : w < 3 := ntNle rfl rfl (by omega) (by omega) c14
          refine lv_aload_n hx hb dX3_takesKey_17 rfl (lv_at hl 0 rfl) ?_
          refine r_getq B hM 16 hL.1 rfl (by decide) rfl rfl (hL.2 16 _ _ rfl).1 q1398 dX3_takesKey_18 ?_
          refine lv_iload_n hx hb dX3_takesKey_21 rfl (lv_at hl 1 rfl) ?_
          refine lv_iconst (v := 1) hx hb dX3_takesKey_22 (by decide) ?_
          refine lv_iadd hx hb dX3_takesKey_23 ?_
          refine r_ild B hM (w + 1) (hL.2 16 _ _ rfl).2 (by simp only [nA, nMu, nL]) (by omega) (by decide) dX3_takesKey_24 ?_
          refine r_topv (v := nI (kA (w + 1))) (hK.2 (w + 1) (by omega)) ?_
          refine lv_aload_n hx hb dX3_takesKey_25 rfl (lv_at hl 0 rfl) ?_
          refine r_getq B hM 16 hL.1 rfl (by decide) rfl rfl (hL.2 16 _ _ rfl).1 q1398 dX3_takesKey_26 ?_
          refine lv_iload_n hx hb dX3_takesKey_29 rfl (lv_at hl 1 rfl) ?_
          refine r_ild B hM w (hL.2 16 _ _ rfl).2 rfl (by omega) (by decide) dX3_takesKey_30 ?_
          refine r_topv (v := nI (kA w)) (hK.2 w (by omega)) ?_
          refine lv_isub hx hb dX3_takesKey_31 ?_
          have hkl := kA_le (w := w) (by omega)
          refine r_topv (v := nI (kA (w + 1) - kA w)) (nI_subN (by omega)) ?_
          refine lv_istore_n (lv' := [(2, .int (nI (kA (w + 1) - kA w))), (0, .ref y0), (1, .int (nI w))]) hx hb dX3_takesKey_32 rfl hl (by decide) rfl (fun ls hl => ?_)
          have loop2 : ∀ (fu_loop2 : Nat) (k : Nat) (sm : Int32), kA (w + 1) - kA w - k < fu_loop2 → (k ≤ kA (w + 1) - kA w) → ((sm = 1 ∧ kA (w + 1) - kA w = x - f ∧ ∀ j, j < k → ka 1007 (f + j) = kC (kA w + j)) ∨ (sm = 0 ∧ ¬ kwT (ka 1007) f x w)) → ∀ (ls : Array Slot) (H : Heap) (locs : List Loc), lv_has ls 5 [(0, .ref y0), (1, .int (nI w)), (2, .int (nI (kA (w + 1) - kA w))), (3, .int sm), (4, .int (nI k))] → Md G th rh ph ka H locs → W p_ l e_ (RM 3 0 0) s_ m_ ([.ref y0].toArray) below_ meth_ c_ H locs 0 0 (MQ below_ (Qi G th rh ph (fun r ka' => (r = 0 ∧ (ka 1099 11 ≠ 1 ∨ ∀ v, v < 3 → ¬ kwT (ka 1007) f x v) ∧ ka' = ka) ∨ (r = 1 ∧ ka 1099 11 = 1 ∧ ∃ w, w < 3 ∧ kwT (ka 1007) f x w ∧ ka' = up1 ka 1099 (goF (ka 1007) (rw1 (ka 1099) 14 (nI w)))))) ([.ref y0].toArray) s_ 0 0 (frG G)) (F0 m_ 55 ls []) := by
            intro fu_loop2
            induction fu_loop2 with
            | zero => intro k sm hfu; exact absurd hfu (Nat.not_lt_zero _)
            | succ fu_loop2 ih_loop2 =>
              intro k sm hfu_loop2 hk hs ls H locs hl hM
              refine lv_iload hx hb dX3_takesKey_55 (lv_at hl 4 rfl) ?_
              refine lv_iload_n hx hb dX3_takesKey_57 rfl (lv_at hl 2 rfl) ?_
              refine lv_icmp_ge (tgt := 106) hx hb dX3_takesKey_58 (by decide) (fun c58 => ?_) (fun c58 => ?_)
              · have n58 : kA (w + 1) - kA w ≤ k := ntLe rfl rfl (by omega) (by omega) c58
                refine lv_iload_n hx hb dX3_takesKey_106 rfl (lv_at hl 3 rfl) ?_
                refine lv_if_eq (tgt := 121) hx hb dX3_takesKey_107 (by decide) (fun c107 => ?_) (fun c107 => ?_)
                · have hno1 : ¬ kwT (ka 1007) f x w := hs.elim (fun q => absurd (q.1.symm.trans c107) (by decide)) (fun q => q.2)
                  refine lv_iinc (v := nI (w + 1)) (lv' := [(1, .int (nI (w + 1))), (0, .ref y0), (2, .int (nI (kA (w + 1) - kA w))), (3, .int sm), (4, .int (nI k))]) hx hb dX3_takesKey_121 hl (k := 1) rfl (nI_1 _) (by decide) rfl (fun ls hl => ?_)
                  refine lv_goto (tgt := 12) hx hb dX3_takesKey_124 (by decide) ?_
                  exact ih_loop1 (w + 1) (by omega) (by omega) (fun v hv => by rcases (show v < w ∨ v = w by omega) with q | rfl; exact hno v q; exact hno1) _ _ _ (lv_sub hl [1, 0] rfl) hM
                · have hkw : kwT (ka 1007) f x w := hs.elim (fun q => ⟨q.2.1, fun j hj => q.2.2 j (by omega)⟩) (fun q => absurd q.1 c107)
                  refine lv_aload_n hx hb dX3_takesKey_110 rfl (lv_at hl 0 rfl) ?_
                  refine lv_iload_n hx hb dX3_takesKey_111 rfl (lv_at hl 1 rfl) ?_
                  refine r_puti B hM 14 hL.1 rfl (by decide) rfl rfl q1396 dX3_takesKey_112 (fun ka_1 H locs eka_1 hM => ?_)
                  refine lv_aload_n hx hb dX3_takesKey_115 rfl (lv_at hl 0 rfl) ?_
                  refine k_v (r_V (As := []) (rest := []) B hM hL.1 rfl rfl (ok_go hL hn96 (n := n) (by rw [eka_1, up2_i _ _ _ _ (by decide)]; exact hn) (x := x) hxn (by rw [eka_1, up2_i _ _ _ _ (by decide)]; exact hx9)) cal_X3_go q1741 rfl hl.1 (Nat.le_of_ble_eq_true rfl) dX3_takesKey_116 ⟨Nat.le_of_ble_eq_true rfl, Nat.le_of_ble_eq_true rfl⟩ ⟨Nat.le_of_ble_eq_true rfl, Nat.le_of_ble_eq_true rfl⟩) hM (fun ka_2 H locs p_3 hM => ?_)
                  have ego := p_3
                  rw [eka_1, up2_row, up2_a _ _ _ (by decide), up2_w1, up1_up1] at ego
                  refine lv_iconst (v := 1) hx hb dX3_takesKey_119 (by decide) ?_
                  refine r_zret B hr hM dX3_takesKey_120 (Or.inr rfl) ?_
                  exact Or.inr ⟨rfl, c5, w, n14, hkw, ego⟩
              · have n58 : k < kA (w + 1) - kA w := ntNle rfl rfl (by omega) (by omega) c58
                refine lv_iload_n hx hb dX3_takesKey_61 rfl (lv_at hl 3 rfl) ?_
                refine lv_if_eq (tgt := 106) hx hb dX3_takesKey_62 (by decide) (fun c62 => ?_) (fun c62 => ?_)
                · refine lv_iload_n hx hb dX3_takesKey_106 rfl (lv_at hl 3 rfl) ?_
                  refine lv_if_eq (tgt := 121) hx hb dX3_takesKey_107 (by decide) (fun c107 => ?_) (fun cZ => absurd c62 cZ)
                  have hno1 : ¬ kwT (ka 1007) f x w := hs.elim (fun q => absurd (q.1.symm.trans c62) (by decide)) (fun q => q.2)
                  refine lv_iinc (v := nI (w + 1)) (lv' := [(1, .int (nI (w + 1))), (0, .ref y0), (2, .int (nI (kA (w + 1) - kA w))), (3, .int sm), (4, .int (nI k))]) hx hb dX3_takesKey_121 hl (k := 1) rfl (nI_1 _) (by decide) rfl (fun ls hl => ?_)
                  refine lv_goto (tgt := 12) hx hb dX3_takesKey_124 (by decide) ?_
                  exact ih_loop1 (w + 1) (by omega) (by omega) (fun v hv => by rcases (show v < w ∨ v = w by omega) with q | rfl; exact hno v q; exact hno1) _ _ _ (lv_sub hl [1, 0] rfl) hM
                · have hs1 := hs.elim (fun q => q.2) (fun q => absurd q.1 c62)
                  refine lv_aload_n hx hb dX3_takesKey_65 rfl (lv_at hl 0 rfl) ?_
                  refine r_getq B hM 7 hL.1 rfl (by decide) rfl rfl (hL.2 7 _ _ rfl).1 q1389 dX3_takesKey_66 ?_
                  refine lv_aload_n hx hb dX3_takesKey_69 rfl (lv_at hl 0 rfl) ?_
                  refine r_geti B hM 10 hL.1 rfl (by decide) rfl rfl q1392 dX3_takesKey_70 ?_
                  refine lv_iload hx hb dX3_takesKey_73 (lv_at hl 4 rfl) ?_
                  refine lv_iadd hx hb dX3_takesKey_75 ?_
                  refine r_ild B hM (f + k) (hL.2 7 _ _ rfl).2 (by rw [hf10]; simp only [nA, nMu, nL]) (by omega) (by decide) dX3_takesKey_76 ?_
                  refine lv_aload_n hx hb dX3_takesKey_77 rfl (lv_at hl 0 rfl) ?_
                  refine r_getq B hM 15 hL.1 rfl (by decide) rfl rfl (hL.2 15 _ _ rfl).1 q1397 dX3_takesKey_78 ?_
                  refine lv_aload_n hx hb dX3_takesKey_81 rfl (lv_at hl 0 rfl) ?_
                  refine r_getq B hM 16 hL.1 rfl (by decide) rfl rfl (hL.2 16 _ _ rfl).1 q1398 dX3_takesKey_82 ?_
                  refine lv_iload_n hx hb dX3_takesKey_85 rfl (lv_at hl 1 rfl) ?_
                  refine r_ild B hM w (hL.2 16 _ _ rfl).2 rfl (by omega) (by decide) dX3_takesKey_86 ?_
                  refine r_topv (v := nI (kA w)) (hK.2 w (by omega)) ?_
                  refine lv_iload hx hb dX3_takesKey_87 (lv_at hl 4 rfl) ?_
                  refine lv_iadd hx hb dX3_takesKey_89 ?_
                  refine r_cld B hM (kA w + k) (hL.2 15 _ _ rfl).2 (by simp only [nA, nMu, nL]) (by omega) (by decide) dX3_takesKey_90 ?_
                  refine r_topv (v := kC (kA w + k)) (hK.1 _ (by omega)) ?_
                  refine lv_icmp_ne (tgt := 98) hx hb dX3_takesKey_91 (by decide) (fun c91 => ?_) (fun c91 => ?_)
                  · refine lv_iconst (v := 0) hx hb dX3_takesKey_98 (by decide) ?_
                    refine lv_istore_n (lv' := [(3, .int 0), (0, .ref y0), (1, .int (nI w)), (2, .int (nI (kA (w + 1) - kA w))), (4, .int (nI k))]) hx hb dX3_takesKey_99 rfl hl (by decide) rfl (fun ls hl => ?_)
                    refine lv_iinc (v := nI (k + 1)) (lv' := [(4, .int (nI (k + 1))), (3, .int 0), (0, .ref y0), (1, .int (nI w)), (2, .int (nI (kA (w + 1) - kA w)))]) hx hb dX3_takesKey_100 hl (k := 4) rfl (nI_1 _) (by decide) rfl (fun ls hl => ?_)
                    refine lv_goto (tgt := 55) hx hb dX3_takesKey_103 (by decide) ?_
                    exact ih_loop2 (k + 1) 0 (by omega) (by omega) (Or.inr ⟨rfl, fun q => c91 (q.2 k n58)⟩) _ _ _ (lv_sub hl [2, 3, 4, 1, 0] rfl) hM
                  · refine lv_iconst (v := 1) hx hb dX3_takesKey_94 (by decide) ?_
                    refine lv_goto (tgt := 99) hx hb dX3_takesKey_95 (by decide) ?_
                    refine lv_istore_n (lv' := [(3, .int 1), (0, .ref y0), (1, .int (nI w)), (2, .int (nI (kA (w + 1) - kA w))), (4, .int (nI k))]) hx hb dX3_takesKey_99 rfl hl (by decide) rfl (fun ls hl => ?_)
                    refine lv_iinc (v := nI (k + 1)) (lv' := [(4, .int (nI (k + 1))), (3, .int 1), (0, .ref y0), (1, .int (nI w)), (2, .int (nI (kA (w + 1) - kA w)))]) hx hb dX3_takesKey_100 hl (k := 4) rfl (nI_1 _) (by decide) rfl (fun ls hl => ?_)
                    refine lv_goto (tgt := 55) hx hb dX3_takesKey_103 (by decide) ?_
                    exact ih_loop2 (k + 1) 1 (by omega) (by omega) (Or.inl ⟨rfl, hs1.1, fun j hj => by rcases (show j < k ∨ j = k by omega) with q | rfl; exact hs1.2 j q; exact c91⟩) _ _ _ (lv_sub hl [2, 3, 4, 1, 0] rfl) hM
          refine lv_iload_n hx hb dX3_takesKey_33 rfl (lv_at hl 0 rfl) ?_
          refine lv_aload_n hx hb dX3_takesKey_34 rfl (lv_at hl 1 rfl) ?_
          refine r_geti B hM 9 hL.1 rfl (by decide) rfl rfl q1391 dX3_takesKey_35 ?_
          refine lv_aload_n hx hb dX3_takesKey_38 rfl (lv_at hl 1 rfl) ?_
          refine r_geti B hM 10 hL.1 rfl (by decide) rfl rfl q1392 dX3_takesKey_39 ?_
          refine lv_isub hx hb dX3_takesKey_42 ?_
          refine r_topv (v := nI (x - f)) (by rw [hx9, hf10]; exact nI_subN hfx) ?_
          refine lv_icmp_ne (tgt := 50) hx hb dX3_takesKey_43 (by decide) (fun c43 => ?_) (fun c43 => ?_)
          · have n43 : kA (w + 1) - kA w ≠ x - f := ntNe rfl rfl (by omega) (by omega) c43
            refine lv_iconst (v := 0) hx hb dX3_takesKey_50 (by decide) ?_
            refine lv_istore_n (lv' := [(3, .int 0), (2, .int (nI (kA (w + 1) - kA w))), (0, .ref y0), (1, .int (nI w))]) hx hb dX3_takesKey_51 rfl hl (by decide) rfl (fun ls hl => ?_)
            refine lv_iconst (v := 0) hx hb dX3_takesKey_52 (by decide) ?_
            refine lv_istore (lv' := [(4, .int 0), (3, .int 0), (2, .int (nI (kA (w + 1) - kA w))), (0, .ref y0), (1, .int (nI w))]) hx hb dX3_takesKey_53 hl (by decide) rfl (fun ls hl => ?_)
            exact loop2 (kA (w + 1) - kA w + 1) 0 0 (by omega) (Nat.zero_le _) (Or.inr ⟨rfl, fun q => n43 q.1⟩) _ _ _ (lv_sub hl [3, 4, 2, 1, 0] rfl) hM
          · have n43 : kA (w + 1) - kA w = x - f := ntEq rfl rfl (by omega) (by omega) c43
            refine lv_iconst (v := 1) hx hb dX3_takesKey_46 (by decide) ?_
            refine lv_goto (tgt := 51) hx hb dX3_takesKey_47 (by decide) ?_
            refine lv_istore_n (lv' := [(3, .int 1), (2, .int (nI (kA (w + 1) - kA w))), (0, .ref y0), (1, .int (nI w))]) hx hb dX3_takesKey_51 rfl hl (by decide) rfl (fun ls hl => ?_)
            refine lv_iconst (v := 0) hx hb dX3_takesKey_52 (by decide) ?_
            refine lv_istore (lv' := [(4, .int 0), (3, .int 1), (2, .int (nI (kA (w + 1) - kA w))), (0, .ref y0), (1, .int (nI w))]) hx hb dX3_takesKey_53 hl (by decide) rfl (fun ls hl => ?_)
            exact loop2 (kA (w + 1) - kA w + 1) 0 1 (by omega) (Nat.zero_le _) (Or.inl ⟨rfl, n43, fun j hj => absurd hj (Nat.not_lt_zero _)⟩) _ _ _ (lv_sub hl [3, 4, 2, 1, 0] rfl) hM
    refine lv_iconst (v := 0) hx hb dX3_takesKey_10 (by decide) ?_
    refine lv_istore_n (lv' := [(1, .int 0), (0, .ref y0)]) hx hb dX3_takesKey_11 rfl hl (by decide) rfl (fun ls hl => ?_)
    exact loop1 4 0 (by omega) (Nat.zero_le _) (fun v hv => absurd hv (Nat.not_lt_zero _)) _ _ _ (lv_sub hl [1, 0] rfl) hM
  · refine lv_iconst (v := 0) hx hb dX3_takesKey_8 (by decide) ?_
    refine r_zret B hr hM dX3_takesKey_9 (Or.inl rfl) ?_
    exact Or.inl ⟨rfl, Or.inl c5, rfl⟩
end
