/-! the component: a cellar anew -/
set_option maxRecDepth 100000
section
variable {l : Launch} {G : GG} {th : Th} {rh : Rh} {ph : Ph} {ka : Ka} {A : XA} {x c w P Q kd b : Nat}
/-- a new cellar with its numbers -/
def NewD (x b w kd : Nat) (f0 f1 : Int32) (wn : Row) (th : Th) (rh : Rh) (ph : Ph) (ka : Ka) (th' : Th) (rh' : Rh) (ph' : Ph) (ka' : Ka) : Prop :=
  th b = none ∧ th w = none ∧ b ≠ w ∧ th' = va_up (va_up th b (some (10000 + b, .inl (4 + kd)))) w (some (10000 + w, .inr (0, 3))) ∧ (∀ q, q ≠ 10000 + b → q ≠ 10000 + w → rh' q = rh q ∧ ph' q = ph q ∧ ka' q = ka q) ∧ rh' (10000 + b) 2 = some w ∧ rh' (10000 + b) 3 = some x ∧ ka' (10000 + b) 0 = f0 ∧ ka' (10000 + b) 1 = f1 ∧ ∀ i, i < 3 → ka' (10000 + w) i = wn i
theorem NewC.like {x b w kd P2 Q2 : Nat} {th th' : Th} {rh rh' : Rh} {ph ph' : Ph} {ka ka' : Ka} (h : NewC x b w kd th rh ph ka th' rh' ph' ka') (h1 : P2 ≠ 10000 + b) (h2 : P2 ≠ 10000 + w) (h3 : Q2 ≠ 10000 + b) (h4 : Q2 ≠ 10000 + w) : NewD x b w kd (ka P2 0) (ka P2 1) (ka Q2) th rh ph ka th' rh' ph' (likeK ka' (10000 + b) (10000 + w) P2 Q2) := by
  obtain ⟨a1, a2, a3, a4, a5, a6, a7, a8, a9⟩ := h
  have eP := (a5 P2 h1 h2).2.2
  have eQ := (a5 Q2 h3 h4).2.2
  unfold likeK
  refine ⟨a1, a2, a3, a4, fun q g1 g2 => ⟨(a5 q g1 g2).1, (a5 q g1 g2).2.1, ?_⟩, a6, a7, ?_, ?_, fun i hi => ?_⟩
  · rw [up1_a _ _ g2, up2_a _ _ _ g1, up2_a _ _ _ g1]; exact (a5 q g1 g2).2.2
  · rw [up1_a _ _ (by omega), up2_i _ _ _ _ (by decide), up2_s, eP]
  · rw [up1_a _ _ (by omega), up2_s, eP]
  · rw [up1_s, pk_cpy_in (by omega) (by omega), eQ, Nat.zero_add, Nat.sub_zero]
theorem ok_X0_anew (hO : LayO th rh A) {o w2 P2 Q2 : Nat} (hD : LayC th rh A.x o w2 P2 Q2 kd) : Met l yX0_anew (ws_ yX0_anew cX0_anew 2 (some (.object "LevelCellars$Cellar"))) (RM 5 2 9) (Pc_ G [.ref A.x, .ref o] th rh ph ka) (QGr G (fun r th' rh' ph' ka' => ∃ b w, r = some b ∧ NewD A.x b w kd (ka P2 0) (ka P2 1) (ka Q2) th rh ph ka th' rh' ph' ka')) 2 9 (frG G) := by
  refine m_of (by decide) (Nat.le_of_ble_eq_true rfl) ?_
  intro p_ e_ s_ m_ below_ meth_ c_ B hr hnm ls hl hM
  have hx := B.1
  have hb := B.2.1
  refine lv_aload_n hx hb dX0_anew_0 rfl (lv_at hl 0 rfl) ?_
  refine lv_aload_n hx hb dX0_anew_1 rfl (lv_at hl 1 rfl) ?_
  refine k_pe (v := nI kd) (r_VA (As := []) (rest := [.ref A.x]) B hM (v_kind hD) q385 rfl hl.1 (Nat.le_of_ble_eq_true rfl) dX0_anew_2 ⟨Nat.le_of_ble_eq_true rfl, Nat.le_of_ble_eq_true rfl⟩ ⟨Nat.le_of_ble_eq_true rfl, Nat.le_of_ble_eq_true rfl⟩) hM (fun H locs hM => ?_)
  refine k_rG (r_V (As := [.int (nI kd)]) (rest := []) B hM hO.1 rfl rfl (ok_X0_made hO hD.2.2.2.2) cal_X0_made q277 rfl hl.1 (Nat.le_of_ble_eq_true rfl) dX0_anew_5 ⟨Nat.le_of_ble_eq_true rfl, Nat.le_of_ble_eq_true rfl⟩ ⟨Nat.le_of_ble_eq_true rfl, Nat.le_of_ble_eq_true rfl⟩) hM (fun r th2 rh2 ph2 ka2 H locs hr1 hM2 => ?_)
  obtain ⟨b, w, rfl, hn⟩ := hr1
  have o1 := hM.off hD.1 hn.1
  have o2 := hM.off hD.1 hn.2.1
  have o3 := hM.off hD.2.2.2.1 hn.1
  have o4 := hM.off hD.2.2.2.1 hn.2.1
  have hD2 : LayC th2 rh2 A.x o w2 P2 Q2 kd := ⟨hn.old hD.1, by rw [(hn.2.2.2.2.1 P2 o1 o2).1]; exact hD.2.1, by rw [(hn.2.2.2.2.1 P2 o1 o2).1]; exact hD.2.2.1, hn.old hD.2.2.2.1, hD.2.2.2.2⟩
  refine lv_aload_n hx hb dX0_anew_8 rfl (lv_at hl 1 rfl) ?_
  refine k_rG (r_VA (As := [.ref o]) (rest := []) B hM2 (v_like (hn.lay hD.2.2.2.2) hD2 (fun z => hn.2.2.1 (by omega)) (Ne.symm o3) (Ne.symm o1) (Ne.symm o2)) q711 rfl hl.1 (Nat.le_of_ble_eq_true rfl) dX0_anew_9 ⟨Nat.le_of_ble_eq_true rfl, Nat.le_of_ble_eq_true rfl⟩ ⟨Nat.le_of_ble_eq_true rfl, Nat.le_of_ble_eq_true rfl⟩) hM2 (fun r th3 rh3 ph3 ka3 H locs hr2 hM3 => ?_)
  obtain ⟨rfl, rfl, rfl, rfl, rfl⟩ := hr2
  refine r_aretG (some b) rfl B hr (Or.inl ⟨_, rfl⟩) hM3 dX0_anew_12 ?_
  exact ⟨b, w, rfl, hn.like o1 o2 o3 o4⟩
/-- the cellar's place in the array, then its own place: what the world is then -/
theorem NewD.frT {x b w kd j k : Nat} {f0 f1 : Int32} {wn : Row} {th th' : Th} {rh rh' : Rh} {ph ph' : Ph} {ka ka' : Ka} (h : NewD x b w kd f0 f1 wn th rh ph ka th' rh' ph' ka') (hoff : ∀ a pl sh, th a = some (pl, sh) → pl ≠ 10000 + b ∧ pl ≠ 10000 + w) (hj : j ≤ 2) (hk : k < 8) :
    FrT j th rh ph ka (plc th' b w (100 + 8 * j + k) (200 + 8 * j + k) (4 + kd)) (up1 (up1 (up2 rh' (44 + 10 * j) k (some b)) (100 + 8 * j + k) (up2 rh' (44 + 10 * j) k (some b) (10000 + b))) (200 + 8 * j + k) (up2 rh' (44 + 10 * j) k (some b) (10000 + w))) (up1 (up1 ph' (100 + 8 * j + k) (ph' (10000 + b))) (200 + 8 * j + k) (ph' (10000 + w))) (up1 (up1 ka' (100 + 8 * j + k) (ka' (10000 + b))) (200 + 8 * j + k) (ka' (10000 + w))) := by
  obtain ⟨a1, a2, a3, a4, a5, -⟩ := h
  refine ⟨fun a pl sh ha hc => ⟨?_, fun ht => ?_⟩, fun a pl sh ha hc => ?_⟩
  · unfold plc
    have hab : a ≠ b := fun z => by rw [z, a1] at ha; cases ha
    have haw : a ≠ w := fun z => by rw [z, a2] at ha; cases ha
    have e : th' a = some (pl, sh) := by rw [a4, va_up_ne _ _ haw, va_up_ne _ _ hab]; exact ha
    rw [if_neg hab, if_neg haw, e]
    show (if pl = _ ∨ pl = _ then none else some (pl, sh)) = _
    rw [if_neg (by omega)]
  · obtain ⟨o1, o2⟩ := hoff a pl sh ha
    obtain ⟨b1, b2, b3⟩ := a5 pl o1 o2
    rw [up1_a _ _ (by omega), up1_a _ _ (by omega), up1_a _ _ (by omega), up1_a _ _ (by omega), up1_a _ _ (by omega), up1_a _ _ (by omega), up2_a _ _ _ (by omega)]
    exact ⟨b1, b2, b3⟩
  · unfold plc at ha
    by_cases z1 : a = b
    · rw [if_pos z1] at ha; cases ha; exact absurd (Or.inl ⟨by omega, by omega⟩) hc
    · rw [if_neg z1] at ha
      by_cases z2 : a = w
      · rw [if_pos z2] at ha; cases ha; exact absurd (Or.inr ⟨by omega, by omega⟩) hc
      · rw [if_neg z2] at ha
        have e : th' a = th a := by rw [a4, va_up_ne _ _ z2, va_up_ne _ _ z1]
        rw [e] at ha
        cases q : th a with
        | none => simp [q] at ha
        | some v =>
          simp only [q] at ha
          split at ha
          · cases ha
          · exact ha
/-- with town j's cellar k laid anew -/
def setCe (A : XA) (j k b w : Nat) : XA := (A.1, A.2.1, A.2.2.1, A.2.2.2.1, (fun i q => if i = j ∧ q = k then b else A.ce i q), fun i q => if i = j ∧ q = k then w else A.wi i q)
theorem setCe_same {A : XA} {j k b w : Nat} : SameA j A (setCe A j k b w) := ⟨rfl, rfl, rfl, rfl, fun i hi => ⟨by funext q; show (if i = j ∧ q = k then b else A.ce i q) = _; rw [if_neg (fun z => hi z.1)], by funext q; show (if i = j ∧ q = k then w else A.wi i q) = _; rw [if_neg (fun z => hi z.1)]⟩⟩
theorem setCe_ce {A : XA} {j k b w : Nat} : (setCe A j k b w).ce j k = b ∧ (setCe A j k b w).wi j k = w := ⟨if_pos ⟨rfl, rfl⟩, if_pos ⟨rfl, rfl⟩⟩
theorem setCe_ne {A : XA} {j k b w q : Nat} (h : q ≠ k) : (setCe A j k b w).ce j q = A.ce j q ∧ (setCe A j k b w).wi j q = A.wi j q := ⟨if_neg (fun z => h z.2), if_neg (fun z => h z.2)⟩
/-- that town then -/
theorem NewD.lay {b w kd j k : Nat} {f0 f1 : Int32} {wn : Row} {th th' : Th} {rh rh' : Rh} {ph ph' : Ph} {ka ka' : Ka} {A : XA} {K : Nat → Option Nat} (h : NewD A.x b w kd f0 f1 wn th rh ph ka th' rh' ph' ka') (hoff : ∀ a pl sh, th a = some (pl, sh) → pl ≠ 10000 + b ∧ pl ≠ 10000 + w) (hj : j ≤ 2) (hk : k < 8) (hkd : kd ≤ 5) (hW : LayW th rh A j) (hK : LayK th rh A j K) {th2 : Th} {rh2 : Rh} {ka2 : Ka} (e1 : th2 = plc th' b w (100 + 8 * j + k) (200 + 8 * j + k) (4 + kd)) (e2 : rh2 = up1 (up1 (up2 rh' (44 + 10 * j) k (some b)) (100 + 8 * j + k) (up2 rh' (44 + 10 * j) k (some b) (10000 + b))) (200 + 8 * j + k) (up2 rh' (44 + 10 * j) k (some b) (10000 + w))) (e3 : ka2 = up1 (up1 ka' (100 + 8 * j + k) (ka' (10000 + b))) (200 + 8 * j + k) (ka' (10000 + w))) :
    LayW th2 rh2 (setCe A j k b w) j ∧ LayK th2 rh2 (setCe A j k b w) j (fun q => if q = k then some kd else K q) ∧ (ka2 (100 + 8 * j + k) 0 = f0 ∧ ka2 (100 + 8 * j + k) 1 = f1 ∧ ∀ i, i < 3 → ka2 (200 + 8 * j + k) i = wn i) ∧ (∀ q, q < 300 → q ≠ 100 + 8 * j + k → q ≠ 200 + 8 * j + k → ka2 q = ka q) ∧ rh2 (45 + 10 * j) = rh (45 + 10 * j) ∧ th2 (A.tw j) = some (30 + j, .inl 1) := by
  have hfr := h.frT hoff hj hk
  rw [← e1, ← e2, ← e3] at hfr
  obtain ⟨a1, a2, a3, a4, a5, a6, a7, a8, a9, a10⟩ := h
  have hold : ∀ q, q < 300 → q ≠ 44 + 10 * j → q ≠ 100 + 8 * j + k → q ≠ 200 + 8 * j + k → rh2 q = rh q := fun q h0 h1 h2 h3 => by
    rw [e2, up1_a _ _ h3, up1_a _ _ h2, up2_a _ _ _ h1]; exact (a5 q (by omega) (by omega)).1
  have h44 : ∀ q, q ≠ k → rh2 (44 + 10 * j) q = rh (44 + 10 * j) q := fun q hq => by
    rw [e2, up1_a _ _ (by omega), up1_a _ _ (by omega), up2_i _ _ _ _ hq, (a5 (44 + 10 * j) (by omega) (by omega)).1]
  have htw := hfr.1 _ _ _ hW.1 (by omega)
  refine ⟨⟨htw.1, fun f tt n hx => ?_, ?_⟩, fun q hq => ?_, ⟨?_, ?_, fun i hi => ?_⟩, fun q h0 h1 h2 => ?_, hold _ (by omega) (by omega) (by omega) (by omega), htw.1⟩
  · obtain ⟨b1, b2⟩ := hW.2.1 f tt n hx
    have hb := tPl_r (j := j) (f := f)
    refine ⟨by rw [hold (30 + j) (by omega) (by omega) (by omega) (by omega)]; exact b1, (hfr.1 _ _ _ b2 (by omega)).1⟩
  · rw [hold (30 + j) (by omega) (by omega) (by omega) (by omega)]; exact hW.2.2
  · show (match (if q = k then some kd else K q) with
      | none => rh2 (44 + 10 * j) q = none
      | some kd => rh2 (44 + 10 * j) q = some ((setCe A j k b w).ce j q) ∧ LayC th2 rh2 A.x ((setCe A j k b w).ce j q) ((setCe A j k b w).wi j q) (100 + 8 * j + q) (200 + 8 * j + q) kd)
    by_cases z : q = k
    · subst z
      rw [if_pos rfl, setCe_ce.1, setCe_ce.2]
      refine ⟨by rw [e2, up1_a _ _ (by omega), up1_a _ _ (by omega), up2_s], ?_, ?_, ?_, ?_, hkd⟩
      · rw [e1]; unfold plc; rw [if_pos rfl]
      · rw [e2, up1_a _ _ (by omega), up1_s, up2_a _ _ _ (by omega)]; exact a6
      · rw [e2, up1_a _ _ (by omega), up1_s, up2_a _ _ _ (by omega)]; exact a7
      · rw [e1]; unfold plc; rw [if_neg (Ne.symm a3), if_pos rfl]
    · rw [if_neg z, (setCe_ne z).1, (setCe_ne z).2]
      have h1 := hK q hq
      cases e : K q with
      | none => rw [e] at h1; show rh2 _ _ = _; rw [h44 q z]; exact h1
      | some kd' =>
        rw [e] at h1
        obtain ⟨c1, c2, c3, c4, c5, c6⟩ := h1
        have hth : ∀ a pl sh, th a = some (pl, sh) → pl ≠ 100 + 8 * j + k → pl ≠ 200 + 8 * j + k → th2 a = some (pl, sh) := fun a pl sh ha g1 g2 => by
          have hab : a ≠ b := fun z => by rw [z, a1] at ha; cases ha
          have haw : a ≠ w := fun z => by rw [z, a2] at ha; cases ha
          have e' : th' a = some (pl, sh) := by rw [a4, va_up_ne _ _ haw, va_up_ne _ _ hab]; exact ha
          rw [e1]
          unfold plc
          rw [if_neg hab, if_neg haw, e']
          show (if pl = _ ∨ pl = _ then none else some (pl, sh)) = _
          rw [if_neg (by omega)]
        exact ⟨by rw [h44 q z]; exact c1, hth _ _ _ c2 (by omega) (by omega), by rw [hold _ (by omega) (by omega) (by omega) (by omega)]; exact c3, by rw [hold _ (by omega) (by omega) (by omega) (by omega)]; exact c4, hth _ _ _ c5 (by omega) (by omega), c6⟩
  · rw [e3, up1_a _ _ (by omega), up1_s]; exact a8
  · rw [e3, up1_a _ _ (by omega), up1_s]; exact a9
  · rw [e3, up1_s]; exact a10 i hi
  · rw [e3, up1_a _ _ h2, up1_a _ _ h1]; exact (a5 q (by omega) (by omega)).2.2
end
