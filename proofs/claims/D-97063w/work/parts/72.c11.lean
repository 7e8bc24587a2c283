/-! the component: a town becomes another one -/
set_option maxRecDepth 100000
section
variable {l : Launch} {G : GG} {th : Th} {rh : Rh} {ph : Ph} {ka : Ka} {A : XA} {j o : Nat} {K Kj : Nat → Option Nat} {t : Row}
def Cok (t : Row) : Prop := ∀ p, p < 13 → t (55 + 4 * p + 3) = 0 ∨ t (55 + 4 * p + 3) = 1
/-- a town's array of texts holds texts, or nothing -/
def TxW (th : Th) (rh : Rh) (j : Nat) : Prop := ∀ i, i < 14 → ∀ y, rh (45 + 10 * j) i = some y → th y = some (10000 + y, .inl 15)
/-- a town's numbers without its cellars -/
def RepN (ka : Ka) (j : Nat) (t : Row) : Prop := (ka (30 + j) 0 = t 1 ∧ ka (30 + j) 1 = t 2 ∧ ka (30 + j) 2 = t 6 ∧ ka (30 + j) 3 = t 3 ∧ ka (30 + j) 4 = t 4 ∧ ka (30 + j) 5 = t 5 ∧ ka (30 + j) 6 = t 0) ∧
  (∀ p, p < 13 → ka (40 + 10 * j) p = t (55 + 4 * p + 0) ∧ ka (41 + 10 * j) p = t (55 + 4 * p + 1) ∧ ka (42 + 10 * j) p = t (55 + 4 * p + 2) ∧ ka (43 + 10 * j) p = t (55 + 4 * p + 3))
theorem cpy13 {f g : Row} {p n : Nat} (h : p < n) : va_cpy f g 0 0 n p = f p := by rw [pk_cpy_in (by omega) (by omega), Nat.zero_add, Nat.sub_zero]
theorem bec_num {ka k1 k2 k3 k4 k5 k6 k7 k8 k9 k10 k11 : Ka} {j o : Nat} {t : Row} (hT : RepT ka o t) (hj : j ≤ 2) (ho : o ≤ 2) (hjo : o ≠ j) (e1 : k1 = up2 ka (30 + j) 1 (t 2)) (e2 : k2 = up2 k1 (30 + j) 2 (t 6)) (e3 : k3 = up2 k2 (30 + j) 3 (t 3)) (e4 : k4 = up2 k3 (30 + j) 4 (t 4)) (e5 : k5 = up2 k4 (30 + j) 5 (t 5)) (e6 : k6 = up2 k5 (30 + j) 6 (t 0))
    (e7 : k7 = up1 k6 (40 + 10 * j) (va_cpy (k6 (40 + 10 * o)) (k6 (40 + 10 * j)) 0 0 13)) (e8 : k8 = up1 k7 (41 + 10 * j) (va_cpy (k7 (41 + 10 * o)) (k7 (41 + 10 * j)) 0 0 13)) (e9 : k9 = up1 k8 (42 + 10 * j) (va_cpy (k8 (42 + 10 * o)) (k8 (42 + 10 * j)) 0 0 13)) (e10 : k10 = up1 k9 (43 + 10 * j) (va_cpy (k9 (43 + 10 * o)) (k9 (43 + 10 * j)) 0 0 13)) (e11 : k11 = up2 k10 (30 + j) 0 (t 1)) : RepN k11 j t := by
  have u6 : ∀ q, q ≠ 30 + j → k6 q = ka q := fun q hq => by rw [e6, up2_a _ _ _ hq, e5, up2_a _ _ _ hq, e4, up2_a _ _ _ hq, e3, up2_a _ _ _ hq, e2, up2_a _ _ _ hq, e1, up2_a _ _ _ hq]
  have v10 : k10 (30 + j) = k6 (30 + j) := by rw [e10, up1_a _ _ (by omega), e9, up1_a _ _ (by omega), e8, up1_a _ _ (by omega), e7, up1_a _ _ (by omega)]
  refine ⟨⟨by rw [e11, up2_s], ?_, ?_, ?_, ?_, ?_, ?_⟩, fun p hp => ⟨?_, ?_, ?_, ?_⟩⟩
  · rw [e11, up2_i _ _ _ _ (by decide), v10, e6, up2_i _ _ _ _ (by decide), e5, up2_i _ _ _ _ (by decide), e4, up2_i _ _ _ _ (by decide), e3, up2_i _ _ _ _ (by decide), e2, up2_i _ _ _ _ (by decide), e1, up2_s]
  · rw [e11, up2_i _ _ _ _ (by decide), v10, e6, up2_i _ _ _ _ (by decide), e5, up2_i _ _ _ _ (by decide), e4, up2_i _ _ _ _ (by decide), e3, up2_i _ _ _ _ (by decide), e2, up2_s]
  · rw [e11, up2_i _ _ _ _ (by decide), v10, e6, up2_i _ _ _ _ (by decide), e5, up2_i _ _ _ _ (by decide), e4, up2_i _ _ _ _ (by decide), e3, up2_s]
  · rw [e11, up2_i _ _ _ _ (by decide), v10, e6, up2_i _ _ _ _ (by decide), e5, up2_i _ _ _ _ (by decide), e4, up2_s]
  · rw [e11, up2_i _ _ _ _ (by decide), v10, e6, up2_i _ _ _ _ (by decide), e5, up2_s]
  · rw [e11, up2_i _ _ _ _ (by decide), v10, e6, up2_s]
  · rw [e11, up2_a _ _ _ (by omega), e10, up1_a _ _ (by omega), e9, up1_a _ _ (by omega), e8, up1_a _ _ (by omega), e7, up1_s, cpy13 hp, u6 _ (by omega)]; exact (hT.2.1 p hp).1
  · rw [e11, up2_a _ _ _ (by omega), e10, up1_a _ _ (by omega), e9, up1_a _ _ (by omega), e8, up1_s, cpy13 hp, e7, up1_a _ _ (by omega), u6 _ (by omega)]; exact (hT.2.1 p hp).2.1
  · rw [e11, up2_a _ _ _ (by omega), e10, up1_a _ _ (by omega), e9, up1_s, cpy13 hp, e8, up1_a _ _ (by omega), e7, up1_a _ _ (by omega), u6 _ (by omega)]; exact (hT.2.1 p hp).2.2.1
  · rw [e11, up2_a _ _ _ (by omega), e10, up1_s, cpy13 hp, e9, up1_a _ _ (by omega), e8, up1_a _ _ (by omega), e7, up1_a _ _ (by omega), u6 _ (by omega)]; exact (hT.2.1 p hp).2.2.2
theorem bool_fit {v : Int32} (h : v = 0 ∨ v = 1) : fits .boolean (.int v) = true := by rcases h with rfl | rfl <;> rfl
theorem LayW.same {th : Th} {rh : Rh} {A A2 : XA} {i j : Nat} (h : LayW th rh A2 i) (hA : SameA j A A2) : LayW th rh A i := by
  obtain ⟨e1, e2, e3, e4, e5⟩ := hA
  unfold LayW at *
  rw [e1, e3, e4] at h
  exact h
theorem LayO.same {th : Th} {rh : Rh} {A A2 : XA} {j : Nat} (h : LayO th rh A2) (hA : SameA j A A2) : LayO th rh A := by
  obtain ⟨e1, e2, e3, e4, e5⟩ := hA
  unfold LayO at *
  rw [e1, e2] at h
  exact h
theorem RepN.of {ka kb : Ka} {j : Nat} {t : Row} (h : RepN ka j t) (hq : ∀ q, q = 30 + j ∨ (40 + 10 * j ≤ q ∧ q ≤ 43 + 10 * j) → kb q = ka q) : RepN kb j t := by
  unfold RepN at *
  rw [hq (30 + j) (by omega), hq (40 + 10 * j) (by omega), hq (41 + 10 * j) (by omega), hq (42 + 10 * j) (by omega), hq (43 + 10 * j) (by omega)]
  exact h
theorem LayW.rx {th : Th} {rh rhx : Rh} {A : XA} {j : Nat} {r : Nat → Option Nat} (h : LayW th rh A j) (e : rhx = up1 rh (45 + 10 * j) r) : LayW th rhx A j := by
  subst e
  unfold LayW at *
  rw [up1_a _ _ (show 30 + j ≠ 45 + 10 * j by omega)]
  exact h
theorem LayK.rx {th : Th} {rh rhx : Rh} {A : XA} {j : Nat} {K : Nat → Option Nat} {r : Nat → Option Nat} (h : LayK th rh A j K) (hj : j ≤ 2) (e : rhx = up1 rh (45 + 10 * j) r) : LayK th rhx A j K := by
  subst e
  intro k hk
  have h1 := h k hk
  cases q : K k with
  | none => rw [q] at h1; show up1 _ _ _ _ _ = _; rw [up1_a _ _ (by omega)]; exact h1
  | some kd =>
    rw [q] at h1
    obtain ⟨c1, c2, c3, c4, c5, c6⟩ := h1
    exact ⟨by rw [up1_a _ _ (by omega)]; exact c1, c2, by rw [up1_a _ _ (by omega)]; exact c3, by rw [up1_a _ _ (by omega)]; exact c4, c5, c6⟩
set_option maxHeartbeats 4000000 in
theorem ok_X1_become (hN : Tn th rh ka A o K t) (hWj : LayW th rh A j) (hKj : LayK th rh A j Kj) (hTWo : TxW th rh o) (hCk : Cok t) (hj : j ≤ 2) (ho : o ≤ 2) (hjo : o ≠ j) : Met l yX1_become (ws_ yX1_become cX1_become 4 none) (RM 6 16 72) (Pc_ G [.ref (A.tw j), .ref (A.tw o)] th rh ph ka) (QGv G (fun th' rh' ph' ka' => ∃ B K', SameA j A B ∧ Tn th' rh' ka' B j K' t ∧ TxW th' rh' j ∧ FrT j th rh ph ka th' rh' ph' ka')) 16 72 (frG G) := by
  refine m_of (by decide) (Nat.le_of_ble_eq_true rfl) ?_
  intro p_ e_ s_ m_ below_ meth_ c_ B hr hnm ls hl hM
  have hx := B.1
  have hb := B.2.1
  have hM := hM
  have hO := hN.1
  have hWo := hN.2.1
  have hR := hN.2.2.2.2.1
  have hT := hN.2.2.2.2.2.1
  have h8 := hR.1.2
  have loop : ∀ (fu_loop : Nat) (i : Nat) (kth : Th) (krh : Rh) (kph : Ph) (kka : Ka) (A2 : XA) (Kb : Nat → Option Nat), nC t - i < fu_loop → (i ≤ nC t) → (SameA j A A2) → (FrT j th rh ph ka kth krh kph kka) → (LayW kth krh A2 j) → (LayK kth krh A2 j Kb) → (RepN kka j t) → (∀ q, q < 14 → krh (45 + 10 * j) q = rh (45 + 10 * o) q) → (∀ k, k < i → Kb k = K k ∧ kka (100 + 8 * j + k) 0 = t (7 + 6 * k + 1) ∧ kka (100 + 8 * j + k) 1 = t (7 + 6 * k + 2) ∧ ∀ z, z < 3 → kka (200 + 8 * j + k) z = t (7 + 6 * k + (3 + z))) → ∀ (ls : Array Slot) (H : Heap) (locs : List Loc), lv_has ls 4 [(0, .ref (A.tw j)), (1, .ref (A.tw o)), (2, .int (nI i))] → Md G kth krh kph kka H locs → W p_ l e_ (RM 6 16 72) s_ m_ ([.ref (A.tw j), .ref (A.tw o)].toArray) below_ meth_ c_ H locs (2 * i) (9 * i) (MQ below_ (QGv G (fun th' rh' ph' ka' => ∃ B K', SameA j A B ∧ Tn th' rh' ka' B j K' t ∧ TxW th' rh' j ∧ FrT j th rh ph ka th' rh' ph' ka')) ([.ref (A.tw j), .ref (A.tw o)].toArray) s_ 16 72 (frG G)) (F0 m_ 133 ls []) := by
    intro fu_loop
    induction fu_loop with
    | zero => intro i kth krh kph kka A2 Kb hfu; exact absurd hfu (Nat.not_lt_zero _)
    | succ fu_loop ih_loop =>
      intro i kth krh kph kka A2 Kb hfu_loop hi hA hfr hWb hKb hnum htx hcel ls H locs hl hM
      have hWa : LayW kth krh A j := hWb.same hA
      refine lv_iload_n hx hb dX1_become_133 rfl (lv_at hl 2 rfl) ?_
      refine lv_aload_n hx hb dX1_become_134 rfl (lv_at hl 0 rfl) ?_
      refine r_geti B hM 0 hWa.1 rfl (by decide) rfl rfl q122 dX1_become_135 ?_
      refine r_topv (v := t 1) (hnum.1.1) ?_
      refine lv_icmp_ge (tgt := 224) hx hb dX1_become_138 (by decide) (fun c138 => ?_) (fun c138 => ?_)
      · have n138 : nC t ≤ i := ntLe (by rw [hR.1.1]) rfl (by omega) (by omega) c138
        refine W.widen (k := 16) (n := 72) (by omega) (by omega) ?_
        refine r_vretG B hr hM dX1_become_224 ?_
        have hin : i = nC t := by omega
        refine ⟨A2, Kb, hA, ⟨hN.1.fr hfr hA hj, hWb, hKb, fun k hk => ?_, hR, ⟨hnum.1, hnum.2, fun k hk => ?_⟩, fun q hq => ?_⟩, fun q hq y hy => ?_, hfr⟩
        · obtain ⟨kd, g1, g2⟩ := hN.2.2.2.1 k hk; exact ⟨kd, (hcel k (by omega)).1.trans g1, g2⟩
        · exact (hcel k (by omega)).2
        · obtain ⟨a, key, g1, g2, g3, g4⟩ := hN.2.2.2.2.2.2 q hq
          have h14 := hR.2.2.1.2
          rw [hA.1]
          exact ⟨a, key, (htx q (by omega)).trans g1, g2, g3.keeps (hfr.keeps hj), g4⟩
        · rw [htx q hq] at hy
          exact (hfr.1 y _ _ (hTWo q hq y hy) (by omega)).1
      · have n138 : i < nC t := ntNle (by rw [hR.1.1]) rfl (by omega) (by omega) c138
        rcases hKi : Kb i with _ | kdD
        · have hKn := hKb.nil (by omega : i < 8) hKi
          have hiC : i < nC t := n138
          have hNo := hN.fr hfr hA hj ho hjo
          obtain ⟨kdS, hkeS, hktS⟩ := hN.2.2.2.1 i hiC
          obtain ⟨hpS, hCS⟩ := hNo.2.2.1.at (by omega) hkeS
          rw [hA.1] at hCS
          obtain ⟨rcS, hr_S, hrNS, hr0S, hr1S, hr2S, hr3S, hg0S, hg1S, hg2S, hg3S, hrCS⟩ := gC4 hCS.2.2.2.2
          have hRo := (hNo.2.2.2.2.2.1.2.2 i hiC)
          have hOb : LayO kth krh A := hNo.1.same hA
          have hWoa : LayW kth krh A o := hNo.2.1.same hA
          refine lv_aload_n hx hb dX1_become_141 rfl (lv_at hl 0 rfl) ?_
          refine r_getq B hM 11 hWa.1 rfl (by decide) rfl rfl (hWa.2.1 11 _ _ rfl).1 q144 dX1_become_142 ?_
          refine lv_iload_n hx hb dX1_become_145 rfl (lv_at hl 2 rfl) ?_
          refine r_ald (v := .null) B hM i (show kth (A.ta j 11) = some (44 + 10 * j, .inr (6, 8)) from (hWa.2.1 11 _ _ rfl).2) rfl (by decide) rfl (by omega) (by decide) (by rw [hKn]; rfl) dX1_become_146 ?_
          refine lv_ifnullN (tgt := 175) hx hb dX1_become_147 (by decide) ?_
          refine lv_iconst (v := 0) hx hb dX1_become_175 (by decide) ?_
          refine lv_istore_n (lv' := [(3, .int 0), (0, .ref (A.tw j)), (1, .ref (A.tw o)), (2, .int (nI i))]) hx hb dX1_become_176 rfl hl (by decide) rfl (fun ls hl => ?_)
          refine lv_aload_n hx hb dX1_become_177 rfl (lv_at hl 1 rfl) ?_
          refine r_getq B hM 11 hWa.1 rfl (by decide) rfl rfl (hWa.2.1 11 _ _ rfl).1 q144 dX1_become_178 ?_
          refine lv_iload_n hx hb dX1_become_181 rfl (lv_at hl 3 rfl) ?_
          refine lv_iload_n hx hb dX1_become_182 rfl (lv_at hl 0 rfl) ?_
          refine lv_if_eq (tgt := 204) hx hb dX1_become_183 (by decide) (fun c183 => ?_) (fun cZ => absurd (by decide) cZ)
          refine lv_aload_n hx hb dX1_become_204 rfl (lv_at hl 1 rfl) ?_
          refine r_getq B hM 13 hWa.1 rfl (by decide) rfl rfl hWa.2.2 q148 dX1_become_205 ?_
          refine lv_aload_n hx hb dX1_become_208 rfl (lv_at hl 2 rfl) ?_
          refine r_getq B hM 11 hWoa.1 rfl (by decide) rfl rfl (hWoa.2.1 11 _ _ rfl).1 q144 dX1_become_209 ?_
          refine lv_iload_n hx hb dX1_become_212 rfl (lv_at hl 3 rfl) ?_
          refine r_aldq B hM i (show kth (A.ta o 11) = some (44 + 10 * o, .inr (6, 8)) from (hWoa.2.1 11 _ _ rfl).2) rfl (by decide) rfl (by omega) (by decide) hpS dX1_become_213 ?_
          refine k_rG (r_VN (As := [.ref (A2.ce o i)]) (rest := [.int (nI i), .ref (A.ta j 11)]) B hM hOb.1 rfl rfl (ok_X0_anew hOb hCS) cal_X0_anew q845 rfl hl.1 (Nat.le_of_ble_eq_true rfl) dX1_become_214 ⟨Nat.le_of_ble_eq_true rfl, Nat.le_of_ble_eq_true rfl⟩ ⟨by show 2 * i + 2 ≤ 16; omega, by show 9 * i + 9 ≤ 72; omega⟩) hM (fun r2 th2 rh2 ph2 ka2 H locs hr2 hM2 => ?_)
          obtain ⟨b, w, rfl, hn⟩ := hr2
          refine W.eq (g2 := F0 m_ 217 ls [.ref b, .int (nI i), .ref (A.ta j 11)]) rfl ?_
          have hoff : ∀ a pl sh, kth a = some (pl, sh) → pl ≠ 10000 + b ∧ pl ≠ 10000 + w := fun a pl sh ha => ⟨hM.off ha hn.1, hM.off ha hn.2.1⟩
          have hbb : th2 b = some (10000 + b, .inl (4 + kdS)) := by rw [hn.2.2.2.1, va_up_ne _ _ hn.2.2.1, va_up_self]
          have hww : th2 w = some (10000 + w, .inr (0, 3)) := by rw [hn.2.2.2.1, va_up_self]
          have hM := hM2
          refine r_ast B hM i (show th2 (A.ta j 11) = some (44 + 10 * j, .inr (6, 8)) by rw [hn.2.2.2.1, va_up_ne _ _ (fun z => by have := arr44 hWa; rw [z, hn.2.1] at this; cases this), va_up_ne _ _ (fun z => by have := arr44 hWa; rw [z, hn.1] at this; cases this)]; exact arr44 hWa) rfl (by decide) hbb hr_S hrCS rfl (by omega) (by decide) dX1_become_217 (fun rh3 H locs erh3 hM => ?_)
          have hMP := hM.1.plc (b := b) (w := w) (P := 100 + 8 * j + i) (Q := 200 + 8 * j + i) hbb hww (by omega) (by omega) (by omega)
          rw [erh3] at hMP
          obtain ⟨th5, e51⟩ : ∃ x, x = plc th2 b w (100 + 8 * j + i) (200 + 8 * j + i) (4 + kdS) := ⟨_, rfl⟩
          obtain ⟨rh5, e52⟩ : ∃ x, x = up1 (up1 (up2 rh2 (44 + 10 * j) i (some b)) (100 + 8 * j + i) (up2 rh2 (44 + 10 * j) i (some b) (10000 + b))) (200 + 8 * j + i) (up2 rh2 (44 + 10 * j) i (some b) (10000 + w)) := ⟨_, rfl⟩
          obtain ⟨ph5, e53⟩ : ∃ x, x = up1 (up1 ph2 (100 + 8 * j + i) (ph2 (10000 + b))) (200 + 8 * j + i) (ph2 (10000 + w)) := ⟨_, rfl⟩
          obtain ⟨ka5, e54⟩ : ∃ x, x = up1 (up1 ka2 (100 + 8 * j + i) (ka2 (10000 + b))) (200 + 8 * j + i) (ka2 (10000 + w)) := ⟨_, rfl⟩
          have hf5 := hn.frT (k := i) hoff hj (by omega)
          rw [← e51, ← e52, ← e53, ← e54] at hMP hf5
          have hM : Md G th5 rh5 ph5 ka5 H locs := ⟨hMP, hM.2⟩
          rw [← hA.1] at hn
          obtain ⟨l1, l2, l3, l4, l5, l6⟩ := hn.lay (A := A2) (k := i) hoff hj (by omega) hCS.2.2.2.2 hWb hKb e51 e52 e54
          have hlast : (if i = i then some kdS else Kb i) = K i ∧ ka5 (100 + 8 * j + i) 0 = t (7 + 6 * i + 1) ∧ ka5 (100 + 8 * j + i) 1 = t (7 + 6 * i + 2) ∧ ∀ z, z < 3 → ka5 (200 + 8 * j + i) z = t (7 + 6 * i + (3 + z)) := by
            refine ⟨by rw [if_pos rfl, hkeS], l3.1.trans hRo.1, l3.2.1.trans hRo.2.1, fun z hz => (l3.2.2 z hz).trans (hRo.2.2 z hz)⟩
          refine lv_iinc (v := nI (i + 1)) (lv' := [(2, .int (nI (i + 1))), (3, .int 0), (0, .ref (A.tw j)), (1, .ref (A.tw o))]) hx hb dX1_become_218 hl (k := 3) rfl (nI_1 _) (by decide) rfl (fun ls hl => ?_)
          refine lv_goto (tgt := 133) hx hb dX1_become_221 (by decide) ?_
          exact ih_loop (i + 1) th5 rh5 ph5 ka5 (setCe A2 j i b w) (fun q => if q = i then some kdS else Kb q) (by omega) (by omega) (hA.trans setCe_same) (hfr.trans hf5) l1 l2 (hnum.of (fun q h1 => l4 q (by omega) (by omega) (by omega))) (fun q hq => by rw [l5]; exact htx q hq) (fun k hk => by by_cases z : k = i; (subst z; exact hlast); (obtain ⟨c1, c2, c3, c4⟩ := hcel k (by omega); rw [if_neg z, l4 (100 + 8 * j + k) (by omega) (by omega) (by omega), l4 (200 + 8 * j + k) (by omega) (by omega) (by omega)]; exact ⟨c1, c2, c3, c4⟩)) _ _ _ (lv_sub hl [2, 3, 0] rfl) hM
        · obtain ⟨hpD, hCD⟩ := hKb.at (by omega : i < 8) hKi
          rw [hA.1] at hCD
          obtain ⟨rcD, hr_D, hrND, hr0D, hr1D, hr2D, hr3D, hg0D, hg1D, hg2D, hg3D, hrCD⟩ := gC4 hCD.2.2.2.2
          have hiC : i < nC t := n138
          have hNo := hN.fr hfr hA hj ho hjo
          obtain ⟨kdS, hkeS, hktS⟩ := hN.2.2.2.1 i hiC
          obtain ⟨hpS, hCS⟩ := hNo.2.2.1.at (by omega) hkeS
          rw [hA.1] at hCS
          obtain ⟨rcS, hr_S, hrNS, hr0S, hr1S, hr2S, hr3S, hg0S, hg1S, hg2S, hg3S, hrCS⟩ := gC4 hCS.2.2.2.2
          have hRo := (hNo.2.2.2.2.2.1.2.2 i hiC)
          have hOb : LayO kth krh A := hNo.1.same hA
          have hWoa : LayW kth krh A o := hNo.2.1.same hA
          refine lv_aload_n hx hb dX1_become_141 rfl (lv_at hl 0 rfl) ?_
          refine r_getq B hM 11 hWa.1 rfl (by decide) rfl rfl (hWa.2.1 11 _ _ rfl).1 q144 dX1_become_142 ?_
          refine lv_iload_n hx hb dX1_become_145 rfl (lv_at hl 2 rfl) ?_
          refine r_aldq B hM i (show kth (A.ta j 11) = some (44 + 10 * j, .inr (6, 8)) from (hWa.2.1 11 _ _ rfl).2) rfl (by decide) rfl (by omega) (by decide) hpD dX1_become_146 ?_
          refine lv_ifnull hx hb dX1_become_147 ?_
          refine lv_aload_n hx hb dX1_become_150 rfl (lv_at hl 0 rfl) ?_
          refine r_getq B hM 11 hWa.1 rfl (by decide) rfl rfl (hWa.2.1 11 _ _ rfl).1 q144 dX1_become_151 ?_
          refine lv_iload_n hx hb dX1_become_154 rfl (lv_at hl 2 rfl) ?_
          refine r_aldq B hM i (show kth (A.ta j 11) = some (44 + 10 * j, .inr (6, 8)) from (hWa.2.1 11 _ _ rfl).2) rfl (by decide) rfl (by omega) (by decide) hpD dX1_become_155 ?_
          refine k_pe (v := nI kdD) (r_VA (As := []) (rest := []) B hM (v_kind hCD) q843 rfl hl.1 (Nat.le_of_ble_eq_true rfl) dX1_become_156 ⟨Nat.le_of_ble_eq_true rfl, Nat.le_of_ble_eq_true rfl⟩ ⟨by show 2 * i + 0 ≤ 16; omega, by show 9 * i + 0 ≤ 72; omega⟩) hM (fun H locs hM => ?_)
          have hkdS5 := hCS.2.2.2.2
          have hkdD5 := hCD.2.2.2.2
          refine lv_aload_n hx hb dX1_become_159 rfl (lv_at hl 1 rfl) ?_
          refine r_getq B hM 11 hWoa.1 rfl (by decide) rfl rfl (hWoa.2.1 11 _ _ rfl).1 q144 dX1_become_160 ?_
          refine lv_iload_n hx hb dX1_become_163 rfl (lv_at hl 2 rfl) ?_
          refine r_aldq B hM i (show kth (A.ta o 11) = some (44 + 10 * o, .inr (6, 8)) from (hWoa.2.1 11 _ _ rfl).2) rfl (by decide) rfl (by omega) (by decide) hpS dX1_become_164 ?_
          refine k_pe (v := nI kdS) (r_VA (As := []) (rest := [.int (nI kdD)]) B hM (v_kind hCS) q843 rfl hl.1 (Nat.le_of_ble_eq_true rfl) dX1_become_165 ⟨Nat.le_of_ble_eq_true rfl, Nat.le_of_ble_eq_true rfl⟩ ⟨by show 2 * i + 0 ≤ 16; omega, by show 9 * i + 0 ≤ 72; omega⟩) hM (fun H locs hM => ?_)
          refine lv_icmp_ne (tgt := 175) hx hb dX1_become_168 (by decide) (fun c168 => ?_) (fun c168 => ?_)
          · have n168 : kdD ≠ kdS := ntNe rfl rfl (by omega) (by omega) c168
            refine lv_iconst (v := 0) hx hb dX1_become_175 (by decide) ?_
            refine lv_istore_n (lv' := [(3, .int 0), (0, .ref (A.tw j)), (1, .ref (A.tw o)), (2, .int (nI i))]) hx hb dX1_become_176 rfl hl (by decide) rfl (fun ls hl => ?_)
            refine lv_aload_n hx hb dX1_become_177 rfl (lv_at hl 1 rfl) ?_
            refine r_getq B hM 11 hWa.1 rfl (by decide) rfl rfl (hWa.2.1 11 _ _ rfl).1 q144 dX1_become_178 ?_
            refine lv_iload_n hx hb dX1_become_181 rfl (lv_at hl 3 rfl) ?_
            refine lv_iload_n hx hb dX1_become_182 rfl (lv_at hl 0 rfl) ?_
            refine lv_if_eq (tgt := 204) hx hb dX1_become_183 (by decide) (fun c183 => ?_) (fun cZ => absurd (by decide) cZ)
            refine lv_aload_n hx hb dX1_become_204 rfl (lv_at hl 1 rfl) ?_
            refine r_getq B hM 13 hWa.1 rfl (by decide) rfl rfl hWa.2.2 q148 dX1_become_205 ?_
            refine lv_aload_n hx hb dX1_become_208 rfl (lv_at hl 2 rfl) ?_
            refine r_getq B hM 11 hWoa.1 rfl (by decide) rfl rfl (hWoa.2.1 11 _ _ rfl).1 q144 dX1_become_209 ?_
            refine lv_iload_n hx hb dX1_become_212 rfl (lv_at hl 3 rfl) ?_
            refine r_aldq B hM i (show kth (A.ta o 11) = some (44 + 10 * o, .inr (6, 8)) from (hWoa.2.1 11 _ _ rfl).2) rfl (by decide) rfl (by omega) (by decide) hpS dX1_become_213 ?_
            refine k_rG (r_VN (As := [.ref (A2.ce o i)]) (rest := [.int (nI i), .ref (A.ta j 11)]) B hM hOb.1 rfl rfl (ok_X0_anew hOb hCS) cal_X0_anew q845 rfl hl.1 (Nat.le_of_ble_eq_true rfl) dX1_become_214 ⟨Nat.le_of_ble_eq_true rfl, Nat.le_of_ble_eq_true rfl⟩ ⟨by show 2 * i + 2 ≤ 16; omega, by show 9 * i + 9 ≤ 72; omega⟩) hM (fun r2 th2 rh2 ph2 ka2 H locs hr2 hM2 => ?_)
            obtain ⟨b, w, rfl, hn⟩ := hr2
            refine W.eq (g2 := F0 m_ 217 ls [.ref b, .int (nI i), .ref (A.ta j 11)]) rfl ?_
            have hoff : ∀ a pl sh, kth a = some (pl, sh) → pl ≠ 10000 + b ∧ pl ≠ 10000 + w := fun a pl sh ha => ⟨hM.off ha hn.1, hM.off ha hn.2.1⟩
            have hbb : th2 b = some (10000 + b, .inl (4 + kdS)) := by rw [hn.2.2.2.1, va_up_ne _ _ hn.2.2.1, va_up_self]
            have hww : th2 w = some (10000 + w, .inr (0, 3)) := by rw [hn.2.2.2.1, va_up_self]
            have hM := hM2
            refine r_ast B hM i (show th2 (A.ta j 11) = some (44 + 10 * j, .inr (6, 8)) by rw [hn.2.2.2.1, va_up_ne _ _ (fun z => by have := arr44 hWa; rw [z, hn.2.1] at this; cases this), va_up_ne _ _ (fun z => by have := arr44 hWa; rw [z, hn.1] at this; cases this)]; exact arr44 hWa) rfl (by decide) hbb hr_S hrCS rfl (by omega) (by decide) dX1_become_217 (fun rh3 H locs erh3 hM => ?_)
            have hMP := hM.1.plc (b := b) (w := w) (P := 100 + 8 * j + i) (Q := 200 + 8 * j + i) hbb hww (by omega) (by omega) (by omega)
            rw [erh3] at hMP
            obtain ⟨th5, e51⟩ : ∃ x, x = plc th2 b w (100 + 8 * j + i) (200 + 8 * j + i) (4 + kdS) := ⟨_, rfl⟩
            obtain ⟨rh5, e52⟩ : ∃ x, x = up1 (up1 (up2 rh2 (44 + 10 * j) i (some b)) (100 + 8 * j + i) (up2 rh2 (44 + 10 * j) i (some b) (10000 + b))) (200 + 8 * j + i) (up2 rh2 (44 + 10 * j) i (some b) (10000 + w)) := ⟨_, rfl⟩
            obtain ⟨ph5, e53⟩ : ∃ x, x = up1 (up1 ph2 (100 + 8 * j + i) (ph2 (10000 + b))) (200 + 8 * j + i) (ph2 (10000 + w)) := ⟨_, rfl⟩
            obtain ⟨ka5, e54⟩ : ∃ x, x = up1 (up1 ka2 (100 + 8 * j + i) (ka2 (10000 + b))) (200 + 8 * j + i) (ka2 (10000 + w)) := ⟨_, rfl⟩
            have hf5 := hn.frT (k := i) hoff hj (by omega)
            rw [← e51, ← e52, ← e53, ← e54] at hMP hf5
            have hM : Md G th5 rh5 ph5 ka5 H locs := ⟨hMP, hM.2⟩
            rw [← hA.1] at hn
            obtain ⟨l1, l2, l3, l4, l5, l6⟩ := hn.lay (A := A2) (k := i) hoff hj (by omega) hCS.2.2.2.2 hWb hKb e51 e52 e54
            have hlast : (if i = i then some kdS else Kb i) = K i ∧ ka5 (100 + 8 * j + i) 0 = t (7 + 6 * i + 1) ∧ ka5 (100 + 8 * j + i) 1 = t (7 + 6 * i + 2) ∧ ∀ z, z < 3 → ka5 (200 + 8 * j + i) z = t (7 + 6 * i + (3 + z)) := by
              refine ⟨by rw [if_pos rfl, hkeS], l3.1.trans hRo.1, l3.2.1.trans hRo.2.1, fun z hz => (l3.2.2 z hz).trans (hRo.2.2 z hz)⟩
            refine lv_iinc (v := nI (i + 1)) (lv' := [(2, .int (nI (i + 1))), (3, .int 0), (0, .ref (A.tw j)), (1, .ref (A.tw o))]) hx hb dX1_become_218 hl (k := 3) rfl (nI_1 _) (by decide) rfl (fun ls hl => ?_)
            refine lv_goto (tgt := 133) hx hb dX1_become_221 (by decide) ?_
            exact ih_loop (i + 1) th5 rh5 ph5 ka5 (setCe A2 j i b w) (fun q => if q = i then some kdS else Kb q) (by omega) (by omega) (hA.trans setCe_same) (hfr.trans hf5) l1 l2 (hnum.of (fun q h1 => l4 q (by omega) (by omega) (by omega))) (fun q hq => by rw [l5]; exact htx q hq) (fun k hk => by by_cases z : k = i; (subst z; exact hlast); (obtain ⟨c1, c2, c3, c4⟩ := hcel k (by omega); rw [if_neg z, l4 (100 + 8 * j + k) (by omega) (by omega) (by omega), l4 (200 + 8 * j + k) (by omega) (by omega) (by omega)]; exact ⟨c1, c2, c3, c4⟩)) _ _ _ (lv_sub hl [2, 3, 0] rfl) hM
          · have n168 : kdD = kdS := ntEq rfl rfl (by omega) (by omega) c168
            refine lv_iconst (v := 1) hx hb dX1_become_171 (by decide) ?_
            refine lv_goto (tgt := 176) hx hb dX1_become_172 (by decide) ?_
            refine lv_istore_n (lv' := [(3, .int 1), (0, .ref (A.tw j)), (1, .ref (A.tw o)), (2, .int (nI i))]) hx hb dX1_become_176 rfl hl (by decide) rfl (fun ls hl => ?_)
            refine lv_aload_n hx hb dX1_become_177 rfl (lv_at hl 1 rfl) ?_
            refine r_getq B hM 11 hWa.1 rfl (by decide) rfl rfl (hWa.2.1 11 _ _ rfl).1 q144 dX1_become_178 ?_
            refine lv_iload_n hx hb dX1_become_181 rfl (lv_at hl 3 rfl) ?_
            refine lv_iload_n hx hb dX1_become_182 rfl (lv_at hl 0 rfl) ?_
            refine lv_if_eq (tgt := 204) hx hb dX1_become_183 (by decide) (fun cZ => absurd cZ (by decide)) (fun c183 => ?_)
            refine lv_aload_n hx hb dX1_become_186 rfl (lv_at hl 1 rfl) ?_
            refine r_getq B hM 11 hWa.1 rfl (by decide) rfl rfl (hWa.2.1 11 _ _ rfl).1 q144 dX1_become_187 ?_
            refine lv_iload_n hx hb dX1_become_190 rfl (lv_at hl 3 rfl) ?_
            refine r_aldq B hM i (show kth (A.ta j 11) = some (44 + 10 * j, .inr (6, 8)) from (hWa.2.1 11 _ _ rfl).2) rfl (by decide) rfl (by omega) (by decide) hpD dX1_become_191 ?_
            refine lv_aload_n hx hb dX1_become_192 rfl (lv_at hl 2 rfl) ?_
            refine r_getq B hM 11 hWoa.1 rfl (by decide) rfl rfl (hWoa.2.1 11 _ _ rfl).1 q144 dX1_become_193 ?_
            refine lv_iload_n hx hb dX1_become_196 rfl (lv_at hl 3 rfl) ?_
            refine r_aldq B hM i (show kth (A.ta o 11) = some (44 + 10 * o, .inr (6, 8)) from (hWoa.2.1 11 _ _ rfl).2) rfl (by decide) rfl (by omega) (by decide) hpS dX1_become_197 ?_
            refine k_rG (r_VA (As := [.ref (A2.ce o i)]) (rest := [.int (nI i), .ref (A.ta j 11)]) B hM (v_like hCD hCS (by omega) (by omega) (by omega) (by omega)) q844 rfl hl.1 (Nat.le_of_ble_eq_true rfl) dX1_become_198 ⟨Nat.le_of_ble_eq_true rfl, Nat.le_of_ble_eq_true rfl⟩ ⟨by show 2 * i + 0 ≤ 16; omega, by show 9 * i + 0 ≤ 72; omega⟩) hM (fun r2 th2 rh2 ph2 k2 H locs hr2 hM3 => ?_)
            obtain ⟨f0, f1, f2, f3, ek2⟩ := hr2
            rw [f1, f2, f3] at hM3
            have hM := hM3
            refine W.eq (g2 := F0 m_ 201 ls [.ref (A2.ce j i), .int (nI i), .ref (A.ta j 11)]) (by rw [f0]; rfl) ?_
            refine lv_goto (tgt := 217) hx hb dX1_become_201 (by decide) ?_
            refine r_ast B hM i (arr44 hWa) rfl (by decide) hCD.1 hr_D hrCD rfl (by omega) (by decide) dX1_become_217 (fun rh3 H locs erh3 hM => ?_)
            have erh4 : rh3 = krh := by
              rw [erh3]
              funext a z
              by_cases q : a = 44 + 10 * j ∧ z = i
              · obtain ⟨rfl, rfl⟩ := q; rw [up2_s, hpD]
              · unfold up2; rw [if_neg q]
            rw [erh4] at hM
            have hlast : Kb i = K i ∧ k2 (100 + 8 * j + i) 0 = t (7 + 6 * i + 1) ∧ k2 (100 + 8 * j + i) 1 = t (7 + 6 * i + 2) ∧ ∀ z, z < 3 → k2 (200 + 8 * j + i) z = t (7 + 6 * i + (3 + z)) := by
              refine ⟨by rw [hKi, hkeS, n168], ?_, ?_, fun z hz => ?_⟩
              · rw [ek2]; unfold likeK; rw [up1_a _ _ (by omega), up2_i _ _ _ _ (by decide), up2_s]; exact hRo.1
              · rw [ek2]; unfold likeK; rw [up1_a _ _ (by omega), up2_s]; exact hRo.2.1
              · rw [ek2]; unfold likeK; rw [up1_s, cpy13 hz]; exact hRo.2.2 z hz
            refine W.widen (k := 2 * (i + 1)) (n := 9 * (i + 1)) (by omega) (by omega) ?_
            refine lv_iinc (v := nI (i + 1)) (lv' := [(2, .int (nI (i + 1))), (3, .int 1), (0, .ref (A.tw j)), (1, .ref (A.tw o))]) hx hb dX1_become_218 hl (k := 3) rfl (nI_1 _) (by decide) rfl (fun ls hl => ?_)
            refine lv_goto (tgt := 133) hx hb dX1_become_221 (by decide) ?_
            exact ih_loop (i + 1) _ _ _ k2 A2 Kb (by omega) (by omega) hA (hfr.trans (FrT.k (fun q hq => by rw [ek2]; unfold likeK; rw [up1_a _ _ (by omega), up2_a _ _ _ (by omega), up2_a _ _ _ (by omega)]))) hWb hKb (hnum.of (fun q h1 => by rw [ek2]; unfold likeK; rw [up1_a _ _ (by omega), up2_a _ _ _ (by omega), up2_a _ _ _ (by omega)])) htx (fun k hk => by by_cases z : k = i; (subst z; exact hlast); (obtain ⟨c1, c2, c3, c4⟩ := hcel k (by omega); rw [ek2]; unfold likeK; rw [up1_a _ _ (by omega), up2_a _ _ _ (by omega), up2_a _ _ _ (by omega), up1_a _ _ (by omega), up2_a _ _ _ (by omega), up2_a _ _ _ (by omega)]; exact ⟨c1, c2, c3, c4⟩)) _ _ _ (lv_sub hl [2, 3, 0] rfl) hM
  refine lv_aload_n hx hb dX1_become_0 rfl (lv_at hl 0 rfl) ?_
  refine lv_aload_n hx hb dX1_become_1 rfl (lv_at hl 1 rfl) ?_
  refine r_geti B hM 1 hWo.1 rfl (by decide) rfl rfl q124 dX1_become_2 ?_
  refine r_topv (v := t 2) (hT.1.2.1) ?_
  refine r_puti B hM 1 hWj.1 rfl (by decide) rfl rfl q124 dX1_become_5 (fun ka_1 H locs eka_1 hM => ?_)
  have hq1 : ∀ q, q ≠ 30 + j → ¬ (40 + 10 * j ≤ q ∧ q ≤ 43 + 10 * j) → ka_1 q = ka q := fun q h1 h2 => by rw [eka_1, up2_a _ _ _ (by omega)]
  refine lv_aload_n hx hb dX1_become_8 rfl (lv_at hl 0 rfl) ?_
  refine lv_aload_n hx hb dX1_become_9 rfl (lv_at hl 1 rfl) ?_
  refine r_geti B hM 2 hWo.1 rfl (by decide) rfl rfl q126 dX1_become_10 ?_
  refine r_topv (v := t 6) (by rw [hq1 (30 + o) (by omega) (by omega)]; exact hT.1.2.2.1) ?_
  refine r_puti B hM 2 hWj.1 rfl (by decide) rfl rfl q126 dX1_become_13 (fun ka_2 H locs eka_2 hM => ?_)
  have hq2 : ∀ q, q ≠ 30 + j → ¬ (40 + 10 * j ≤ q ∧ q ≤ 43 + 10 * j) → ka_2 q = ka q := fun q h1 h2 => by rw [eka_2, up2_a _ _ _ (by omega)]; exact hq1 q h1 h2
  refine lv_aload_n hx hb dX1_become_16 rfl (lv_at hl 0 rfl) ?_
  refine lv_aload_n hx hb dX1_become_17 rfl (lv_at hl 1 rfl) ?_
  refine r_geti B hM 3 hWo.1 rfl (by decide) rfl rfl q128 dX1_become_18 ?_
  refine r_topv (v := t 3) (by rw [hq2 (30 + o) (by omega) (by omega)]; exact hT.1.2.2.2.1) ?_
  refine r_puti B hM 3 hWj.1 rfl (by decide) rfl rfl q128 dX1_become_21 (fun ka_3 H locs eka_3 hM => ?_)
  have hq3 : ∀ q, q ≠ 30 + j → ¬ (40 + 10 * j ≤ q ∧ q ≤ 43 + 10 * j) → ka_3 q = ka q := fun q h1 h2 => by rw [eka_3, up2_a _ _ _ (by omega)]; exact hq2 q h1 h2
  refine lv_aload_n hx hb dX1_become_24 rfl (lv_at hl 0 rfl) ?_
  refine lv_aload_n hx hb dX1_become_25 rfl (lv_at hl 1 rfl) ?_
  refine r_geti B hM 4 hWo.1 rfl (by decide) rfl rfl q130 dX1_become_26 ?_
  refine r_topv (v := t 4) (by rw [hq3 (30 + o) (by omega) (by omega)]; exact hT.1.2.2.2.2.1) ?_
  refine r_puti B hM 4 hWj.1 rfl (by decide) rfl rfl q130 dX1_become_29 (fun ka_4 H locs eka_4 hM => ?_)
  have hq4 : ∀ q, q ≠ 30 + j → ¬ (40 + 10 * j ≤ q ∧ q ≤ 43 + 10 * j) → ka_4 q = ka q := fun q h1 h2 => by rw [eka_4, up2_a _ _ _ (by omega)]; exact hq3 q h1 h2
  refine lv_aload_n hx hb dX1_become_32 rfl (lv_at hl 0 rfl) ?_
  refine lv_aload_n hx hb dX1_become_33 rfl (lv_at hl 1 rfl) ?_
  refine r_geti B hM 5 hWo.1 rfl (by decide) rfl rfl q132 dX1_become_34 ?_
  refine r_topv (v := t 5) (by rw [hq4 (30 + o) (by omega) (by omega)]; exact hT.1.2.2.2.2.2.1) ?_
  refine r_puti B hM 5 hWj.1 rfl (by decide) rfl rfl q132 dX1_become_37 (fun ka_5 H locs eka_5 hM => ?_)
  have hq5 : ∀ q, q ≠ 30 + j → ¬ (40 + 10 * j ≤ q ∧ q ≤ 43 + 10 * j) → ka_5 q = ka q := fun q h1 h2 => by rw [eka_5, up2_a _ _ _ (by omega)]; exact hq4 q h1 h2
  refine lv_aload_n hx hb dX1_become_40 rfl (lv_at hl 0 rfl) ?_
  refine lv_aload_n hx hb dX1_become_41 rfl (lv_at hl 1 rfl) ?_
  refine r_geti B hM 6 hWo.1 rfl (by decide) rfl rfl q134 dX1_become_42 ?_
  refine r_topv (v := t 0) (by rw [hq5 (30 + o) (by omega) (by omega)]; exact hT.1.2.2.2.2.2.2) ?_
  refine r_puti B hM 6 hWj.1 rfl (by decide) rfl rfl q134 dX1_become_45 (fun ka_6 H locs eka_6 hM => ?_)
  have hq6 : ∀ q, q ≠ 30 + j → ¬ (40 + 10 * j ≤ q ∧ q ≤ 43 + 10 * j) → ka_6 q = ka q := fun q h1 h2 => by rw [eka_6, up2_a _ _ _ (by omega)]; exact hq5 q h1 h2
  refine lv_aload_n hx hb dX1_become_48 rfl (lv_at hl 1 rfl) ?_
  refine r_getq B hM 7 hWo.1 rfl (by decide) rfl rfl (hWo.2.1 7 _ _ rfl).1 q136 dX1_become_49 ?_
  refine lv_iconst (v := 0) hx hb dX1_become_52 (by decide) ?_
  refine lv_aload_n hx hb dX1_become_53 rfl (lv_at hl 0 rfl) ?_
  refine r_getq B hM 7 hWj.1 rfl (by decide) rfl rfl (hWj.2.1 7 _ _ rfl).1 q136 dX1_become_54 ?_
  refine lv_iconst (v := 0) hx hb dX1_become_57 (by decide) ?_
  refine lv_bipush (v := 13) hx hb dX1_become_58 (by decide) ?_
  refine r_cpi (ty := .int) B hM (show th (A.ta o 7) = some (40 + 10 * o, .inr (0, 13)) from (hWo.2.1 7 _ _ rfl).2) (show th (A.ta j 7) = some (40 + 10 * j, .inr (0, 13)) from (hWj.2.1 7 _ _ rfl).2) rfl (by decide) 0 0 13 (by decide) (by decide) (by decide) (by decide) (by decide) (fun _ _ => rfl) q842 hl.1 (Nat.le_of_ble_eq_true rfl) (Nat.le_of_ble_eq_true rfl) dX1_become_60 (fun ka_7 H locs eka_7 hM => ?_)
  have hq7 : ∀ q, q ≠ 30 + j → ¬ (40 + 10 * j ≤ q ∧ q ≤ 43 + 10 * j) → ka_7 q = ka q := fun q h1 h2 => by rw [eka_7, up1_a _ _ (by omega)]; exact hq6 q h1 h2
  refine lv_aload_n hx hb dX1_become_63 rfl (lv_at hl 1 rfl) ?_
  refine r_getq B hM 8 hWo.1 rfl (by decide) rfl rfl (hWo.2.1 8 _ _ rfl).1 q138 dX1_become_64 ?_
  refine lv_iconst (v := 0) hx hb dX1_become_67 (by decide) ?_
  refine lv_aload_n hx hb dX1_become_68 rfl (lv_at hl 0 rfl) ?_
  refine r_getq B hM 8 hWj.1 rfl (by decide) rfl rfl (hWj.2.1 8 _ _ rfl).1 q138 dX1_become_69 ?_
  refine lv_iconst (v := 0) hx hb dX1_become_72 (by decide) ?_
  refine lv_bipush (v := 13) hx hb dX1_become_73 (by decide) ?_
  refine r_cpi (ty := .int) B hM (show th (A.ta o 8) = some (41 + 10 * o, .inr (0, 13)) from (hWo.2.1 8 _ _ rfl).2) (show th (A.ta j 8) = some (41 + 10 * j, .inr (0, 13)) from (hWj.2.1 8 _ _ rfl).2) rfl (by decide) 0 0 13 (by decide) (by decide) (by decide) (by decide) (by decide) (fun _ _ => rfl) q842 hl.1 (Nat.le_of_ble_eq_true rfl) (Nat.le_of_ble_eq_true rfl) dX1_become_75 (fun ka_8 H locs eka_8 hM => ?_)
  have hq8 : ∀ q, q ≠ 30 + j → ¬ (40 + 10 * j ≤ q ∧ q ≤ 43 + 10 * j) → ka_8 q = ka q := fun q h1 h2 => by rw [eka_8, up1_a _ _ (by omega)]; exact hq7 q h1 h2
  refine lv_aload_n hx hb dX1_become_78 rfl (lv_at hl 1 rfl) ?_
  refine r_getq B hM 9 hWo.1 rfl (by decide) rfl rfl (hWo.2.1 9 _ _ rfl).1 q140 dX1_become_79 ?_
  refine lv_iconst (v := 0) hx hb dX1_become_82 (by decide) ?_
  refine lv_aload_n hx hb dX1_become_83 rfl (lv_at hl 0 rfl) ?_
  refine r_getq B hM 9 hWj.1 rfl (by decide) rfl rfl (hWj.2.1 9 _ _ rfl).1 q140 dX1_become_84 ?_
  refine lv_iconst (v := 0) hx hb dX1_become_87 (by decide) ?_
  refine lv_bipush (v := 13) hx hb dX1_become_88 (by decide) ?_
  refine r_cpi (ty := .int) B hM (show th (A.ta o 9) = some (42 + 10 * o, .inr (0, 13)) from (hWo.2.1 9 _ _ rfl).2) (show th (A.ta j 9) = some (42 + 10 * j, .inr (0, 13)) from (hWj.2.1 9 _ _ rfl).2) rfl (by decide) 0 0 13 (by decide) (by decide) (by decide) (by decide) (by decide) (fun _ _ => rfl) q842 hl.1 (Nat.le_of_ble_eq_true rfl) (Nat.le_of_ble_eq_true rfl) dX1_become_90 (fun ka_9 H locs eka_9 hM => ?_)
  have hq9 : ∀ q, q ≠ 30 + j → ¬ (40 + 10 * j ≤ q ∧ q ≤ 43 + 10 * j) → ka_9 q = ka q := fun q h1 h2 => by rw [eka_9, up1_a _ _ (by omega)]; exact hq8 q h1 h2
  refine lv_aload_n hx hb dX1_become_93 rfl (lv_at hl 1 rfl) ?_
  refine r_getq B hM 10 hWo.1 rfl (by decide) rfl rfl (hWo.2.1 10 _ _ rfl).1 q142 dX1_become_94 ?_
  refine lv_iconst (v := 0) hx hb dX1_become_97 (by decide) ?_
  refine lv_aload_n hx hb dX1_become_98 rfl (lv_at hl 0 rfl) ?_
  refine r_getq B hM 10 hWj.1 rfl (by decide) rfl rfl (hWj.2.1 10 _ _ rfl).1 q142 dX1_become_99 ?_
  refine lv_iconst (v := 0) hx hb dX1_become_102 (by decide) ?_
  refine lv_bipush (v := 13) hx hb dX1_become_103 (by decide) ?_
  refine r_cpi (ty := .boolean) B hM (show th (A.ta o 10) = some (43 + 10 * o, .inr (1, 13)) from (hWo.2.1 10 _ _ rfl).2) (show th (A.ta j 10) = some (43 + 10 * j, .inr (1, 13)) from (hWj.2.1 10 _ _ rfl).2) rfl (by decide) 0 0 13 (by decide) (by decide) (by decide) (by decide) (by decide) (fun i hi => by rw [hq9 (43 + 10 * o) (by omega) (by omega), Nat.zero_add, (hT.2.1 i hi).2.2.2]; exact bool_fit (hCk i hi)) q842 hl.1 (Nat.le_of_ble_eq_true rfl) (Nat.le_of_ble_eq_true rfl) dX1_become_105 (fun ka_10 H locs eka_10 hM => ?_)
  have hq10 : ∀ q, q ≠ 30 + j → ¬ (40 + 10 * j ≤ q ∧ q ≤ 43 + 10 * j) → ka_10 q = ka q := fun q h1 h2 => by rw [eka_10, up1_a _ _ (by omega)]; exact hq9 q h1 h2
  refine lv_aload_n hx hb dX1_become_108 rfl (lv_at hl 1 rfl) ?_
  refine r_getq B hM 12 hWo.1 rfl (by decide) rfl rfl (hWo.2.1 12 _ _ rfl).1 q146 dX1_become_109 ?_
  refine lv_iconst (v := 0) hx hb dX1_become_112 (by decide) ?_
  refine lv_aload_n hx hb dX1_become_113 rfl (lv_at hl 0 rfl) ?_
  refine r_getq B hM 12 hWj.1 rfl (by decide) rfl rfl (hWj.2.1 12 _ _ rfl).1 q146 dX1_become_114 ?_
  refine lv_iconst (v := 0) hx hb dX1_become_117 (by decide) ?_
  refine lv_bipush (v := 14) hx hb dX1_become_118 (by decide) ?_
  refine r_cpx B hM (show th (A.ta o 12) = some (45 + 10 * o, .inr (7, 14)) from (hWo.2.1 12 _ _ rfl).2) (show th (A.ta j 12) = some (45 + 10 * j, .inr (7, 14)) from (hWj.2.1 12 _ _ rfl).2) 0 0 14 (by decide) (by decide) (by decide) (by decide) (by decide) (fun i hi y hy => ⟨_, hTWo i hi y (by rw [Nat.zero_add] at hy; exact hy)⟩) q842 hl.1 (Nat.le_of_ble_eq_true rfl) (Nat.le_of_ble_eq_true rfl) dX1_become_120 (fun rhx H locs erx hM => ?_)
  refine lv_aload_n hx hb dX1_become_123 rfl (lv_at hl 0 rfl) ?_
  refine lv_aload_n hx hb dX1_become_124 rfl (lv_at hl 1 rfl) ?_
  refine r_geti B hM 0 hWo.1 rfl (by decide) rfl rfl q122 dX1_become_125 ?_
  refine r_topv (v := t 1) (by rw [hq10 (30 + o) (by omega) (by omega)]; exact hT.1.1) ?_
  refine r_puti B hM 0 hWj.1 rfl (by decide) rfl rfl q122 dX1_become_128 (fun ka_11 H locs eka_11 hM => ?_)
  have hq11 : ∀ q, q ≠ 30 + j → ¬ (40 + 10 * j ≤ q ∧ q ≤ 43 + 10 * j) → ka_11 q = ka q := fun q h1 h2 => by rw [eka_11, up2_a _ _ _ (by omega)]; exact hq10 q h1 h2
  refine lv_iconst (v := 0) hx hb dX1_become_131 (by decide) ?_
  refine lv_istore_n (lv' := [(2, .int 0), (0, .ref (A.tw j)), (1, .ref (A.tw o))]) hx hb dX1_become_132 rfl hl (by decide) rfl (fun ls hl => ?_)
  exact loop (nC t + 1) 0 th rhx ph ka_11 A Kj (by omega) (Nat.zero_le _) SameA.refl ((FrT.r (fun q hq => by rw [erx, up1_a _ _ (by omega)])).trans (FrT.k (fun q hq => hq11 q (by omega) (by omega)))) (hWj.rx erx) (hKj.rx hj erx) (bec_num hT hj ho hjo eka_1 eka_2 eka_3 eka_4 eka_5 eka_6 eka_7 eka_8 eka_9 eka_10 eka_11) (fun q hq => by rw [erx, up1_s, pk_cpy_in (by omega) (by omega), Nat.zero_add, Nat.sub_zero]) (fun k hk => absurd hk (Nat.not_lt_zero _)) _ _ _ (lv_sub hl [1, 2, 0] rfl) hM
end
