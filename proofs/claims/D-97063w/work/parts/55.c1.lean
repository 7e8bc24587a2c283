/-! the component: cellars of each kind -/
set_option maxRecDepth 100000
section
variable {l : Launch} {G : GG} {th : Th} {rh : Rh} {ph : Ph} {ka : Ka} {A : XA} {x c w P Q kd : Nat}
theorem k_pe5 {p : Program} {l : Launch} {e : Env} {R : Room} {s : State} {m : MethodId} {args : Array Value} {below : List Frame} {meth : Method} {c : Code} {H : Heap} {locs : List Loc} {cells slots : Nat} {Q : State → Prop} {pc : Nat} {ls : Array Slot} {rest : List Value} {G : GG} {th : Th} {rh : Rh} {ph : Ph} {ka : Ka} {mc ms : Nat} {st0 : List Value} {a0 : Array Value} {v : Int32} (hr : va_Run5 p l e R s m args below meth c H locs cells slots mc ms (F0 m pc ls st0) rest (Qp G th rh ph ka (fun r => r = v) a0) (frG G)) (hM : Md G th rh ph ka H locs)
    (kk : ∀ (H : Heap) (locs : List Loc), Md G th rh ph ka H locs → W p l e R s m args below meth c H locs (cells + mc) (slots + ms) Q (F0 m (pc + 5) ls (.int v :: rest))) : W p l e R s m args below meth c H locs cells slots Q (F0 m pc ls st0) :=
  k_p5 hr hM (fun r H locs hp hM => by subst hp; exact kk H locs hM)
/-- worth, drops taken in, drops lost, by the kind -/
def wkT (kd l : Int32) : Int32 := if kd = 1 then l + 6 else if kd = 2 then 99 - l else if kd = 3 then 2 * (l + 6) else if kd = 4 then 91 - l else if kd = 5 then 3 else l
def tkT (kd n : Int32) : Int32 := if kd = 3 then n / 2 else if kd = 5 then 0 else n
def lkT (kd f : Int32) : Int32 := if kd = 2 then f / 20 else if kd = 4 then (if f / 20 < 1 then 0 else f / 20 - 1) else 0
theorem wkT_e (t : Row) (k : Nat) : worthT t k = wkT (t (7 + 6 * k + 0)) (t (7 + 6 * k + 2)) := rfl
theorem tkT_e (t : Row) (k : Nat) (n : Int32) : takesT t k n = tkT (t (7 + 6 * k + 0)) n := rfl
theorem lkT_e (t : Row) (k : Nat) : losesT t k = lkT (t (7 + 6 * k + 0)) (fullT t k) := rfl
theorem kd_cases {kd : Nat} (h : kd ≤ 5) : kd = 0 ∨ kd = 1 ∨ kd = 2 ∨ kd = 3 ∨ kd = 4 ∨ kd = 5 := by omega
set_option maxHeartbeats 4000000 in
theorem ok_X4_kind (hC : LayC th rh x c w P Q kd) : Met l yX4_kind (ws_ yX4_kind cX4_kind 1 (some .int)) (RM 1 0 0) (Pc_ G [.ref c] th rh ph ka) (Qp G th rh ph ka (fun r => r = 0)) 0 0 (frG G) := by
  refine m_of (by decide) (Nat.le_of_ble_eq_true rfl) ?_
  intro p_ e_ s_ m_ below_ meth_ c_ B hr hnm ls hl hM
  have hx := B.1
  have hb := B.2.1
  have hM := hM
  obtain ⟨rc, hr_, hrN, hr0, hr1, hr2, hr3, hg0, hg1, hg2, hg3, hrC⟩ := gC4 hC.2.2.2.2
  refine lv_iconst (v := 0) hx hb dX4_kind_0 (by decide) ?_
  refine r_iretp B hr hM dX4_kind_1 ?_
  rfl
set_option maxHeartbeats 4000000 in
theorem ok_X5_kind (hC : LayC th rh x c w P Q kd) : Met l yX5_kind (ws_ yX5_kind cX5_kind 1 (some .int)) (RM 2 0 0) (Pc_ G [.ref c] th rh ph ka) (Qp G th rh ph ka (fun r => r = 1)) 0 0 (frG G) := by
  refine m_of (by decide) (Nat.le_of_ble_eq_true rfl) ?_
  intro p_ e_ s_ m_ below_ meth_ c_ B hr hnm ls hl hM
  have hx := B.1
  have hb := B.2.1
  have hM := hM
  obtain ⟨rc, hr_, hrN, hr0, hr1, hr2, hr3, hg0, hg1, hg2, hg3, hrC⟩ := gC4 hC.2.2.2.2
  refine lv_aload_n hx hb dX5_kind_0 rfl (lv_at hl 0 rfl) ?_
  refine k_pe (v := 0) (r_X (As := []) (rest := []) B hM hC.1 hr_ (ok_X4_kind hC) calX_5_kind q399 rfl hl.1 (Nat.le_of_ble_eq_true rfl) dX5_kind_1 ⟨Nat.le_of_ble_eq_true rfl, Nat.le_of_ble_eq_true rfl⟩ ⟨Nat.le_of_ble_eq_true rfl, Nat.le_of_ble_eq_true rfl⟩) hM (fun H locs hM => ?_)
  refine lv_iconst (v := 1) hx hb dX5_kind_4 (by decide) ?_
  refine lv_iadd hx hb dX5_kind_5 ?_
  refine W.eq (g2 := F0 m_ 6 ls (.int 1 :: [])) rfl ?_
  refine r_iretp B hr hM dX5_kind_6 ?_
  rfl
set_option maxHeartbeats 4000000 in
theorem ok_X6_kind (hC : LayC th rh x c w P Q kd) : Met l yX6_kind (ws_ yX6_kind cX6_kind 1 (some .int)) (RM 2 0 0) (Pc_ G [.ref c] th rh ph ka) (Qp G th rh ph ka (fun r => r = 2)) 0 0 (frG G) := by
  refine m_of (by decide) (Nat.le_of_ble_eq_true rfl) ?_
  intro p_ e_ s_ m_ below_ meth_ c_ B hr hnm ls hl hM
  have hx := B.1
  have hb := B.2.1
  have hM := hM
  obtain ⟨rc, hr_, hrN, hr0, hr1, hr2, hr3, hg0, hg1, hg2, hg3, hrC⟩ := gC4 hC.2.2.2.2
  refine lv_aload_n hx hb dX6_kind_0 rfl (lv_at hl 0 rfl) ?_
  refine k_pe (v := 0) (r_X (As := []) (rest := []) B hM hC.1 hr_ (ok_X4_kind hC) calX_6_kind q395 rfl hl.1 (Nat.le_of_ble_eq_true rfl) dX6_kind_1 ⟨Nat.le_of_ble_eq_true rfl, Nat.le_of_ble_eq_true rfl⟩ ⟨Nat.le_of_ble_eq_true rfl, Nat.le_of_ble_eq_true rfl⟩) hM (fun H locs hM => ?_)
  refine lv_iconst (v := 2) hx hb dX6_kind_4 (by decide) ?_
  refine lv_iadd hx hb dX6_kind_5 ?_
  refine W.eq (g2 := F0 m_ 6 ls (.int 2 :: [])) rfl ?_
  refine r_iretp B hr hM dX6_kind_6 ?_
  rfl
set_option maxHeartbeats 4000000 in
theorem ok_X9_kind (hC : LayC th rh x c w P Q kd) : Met l yX9_kind (ws_ yX9_kind cX9_kind 1 (some .int)) (RM 2 0 0) (Pc_ G [.ref c] th rh ph ka) (Qp G th rh ph ka (fun r => r = 5)) 0 0 (frG G) := by
  refine m_of (by decide) (Nat.le_of_ble_eq_true rfl) ?_
  intro p_ e_ s_ m_ below_ meth_ c_ B hr hnm ls hl hM
  have hx := B.1
  have hb := B.2.1
  have hM := hM
  obtain ⟨rc, hr_, hrN, hr0, hr1, hr2, hr3, hg0, hg1, hg2, hg3, hrC⟩ := gC4 hC.2.2.2.2
  refine lv_aload_n hx hb dX9_kind_0 rfl (lv_at hl 0 rfl) ?_
  refine k_pe (v := 0) (r_X (As := []) (rest := []) B hM hC.1 hr_ (ok_X4_kind hC) calX_9_kind q404 rfl hl.1 (Nat.le_of_ble_eq_true rfl) dX9_kind_1 ⟨Nat.le_of_ble_eq_true rfl, Nat.le_of_ble_eq_true rfl⟩ ⟨Nat.le_of_ble_eq_true rfl, Nat.le_of_ble_eq_true rfl⟩) hM (fun H locs hM => ?_)
  refine lv_iconst (v := 5) hx hb dX9_kind_4 (by decide) ?_
  refine lv_iadd hx hb dX9_kind_5 ?_
  refine W.eq (g2 := F0 m_ 6 ls (.int 5 :: [])) rfl ?_
  refine r_iretp B hr hM dX9_kind_6 ?_
  rfl
set_option maxHeartbeats 4000000 in
theorem ok_X7_kind (hC : LayC th rh x c w P Q kd) : Met l yX7_kind (ws_ yX7_kind cX7_kind 1 (some .int)) (RM 3 0 0) (Pc_ G [.ref c] th rh ph ka) (Qp G th rh ph ka (fun r => r = 3)) 0 0 (frG G) := by
  refine m_of (by decide) (Nat.le_of_ble_eq_true rfl) ?_
  intro p_ e_ s_ m_ below_ meth_ c_ B hr hnm ls hl hM
  have hx := B.1
  have hb := B.2.1
  have hM := hM
  obtain ⟨rc, hr_, hrN, hr0, hr1, hr2, hr3, hg0, hg1, hg2, hg3, hrC⟩ := gC4 hC.2.2.2.2
  refine lv_aload_n hx hb dX7_kind_0 rfl (lv_at hl 0 rfl) ?_
  refine k_pe (v := 1) (r_X (As := []) (rest := []) B hM hC.1 hr_ (ok_X5_kind hC) calX_7_kind q408 rfl hl.1 (Nat.le_of_ble_eq_true rfl) dX7_kind_1 ⟨Nat.le_of_ble_eq_true rfl, Nat.le_of_ble_eq_true rfl⟩ ⟨Nat.le_of_ble_eq_true rfl, Nat.le_of_ble_eq_true rfl⟩) hM (fun H locs hM => ?_)
  refine lv_iconst (v := 2) hx hb dX7_kind_4 (by decide) ?_
  refine lv_iadd hx hb dX7_kind_5 ?_
  refine W.eq (g2 := F0 m_ 6 ls (.int 3 :: [])) rfl ?_
  refine r_iretp B hr hM dX7_kind_6 ?_
  rfl
set_option maxHeartbeats 4000000 in
theorem ok_X8_kind (hC : LayC th rh x c w P Q kd) : Met l yX8_kind (ws_ yX8_kind cX8_kind 1 (some .int)) (RM 3 0 0) (Pc_ G [.ref c] th rh ph ka) (Qp G th rh ph ka (fun r => r = 4)) 0 0 (frG G) := by
  refine m_of (by decide) (Nat.le_of_ble_eq_true rfl) ?_
  intro p_ e_ s_ m_ below_ meth_ c_ B hr hnm ls hl hM
  have hx := B.1
  have hb := B.2.1
  have hM := hM
  obtain ⟨rc, hr_, hrN, hr0, hr1, hr2, hr3, hg0, hg1, hg2, hg3, hrC⟩ := gC4 hC.2.2.2.2
  refine lv_aload_n hx hb dX8_kind_0 rfl (lv_at hl 0 rfl) ?_
  refine k_pe (v := 2) (r_X (As := []) (rest := []) B hM hC.1 hr_ (ok_X6_kind hC) calX_8_kind q392 rfl hl.1 (Nat.le_of_ble_eq_true rfl) dX8_kind_1 ⟨Nat.le_of_ble_eq_true rfl, Nat.le_of_ble_eq_true rfl⟩ ⟨Nat.le_of_ble_eq_true rfl, Nat.le_of_ble_eq_true rfl⟩) hM (fun H locs hM => ?_)
  refine lv_iconst (v := 2) hx hb dX8_kind_4 (by decide) ?_
  refine lv_iadd hx hb dX8_kind_5 ?_
  refine W.eq (g2 := F0 m_ 6 ls (.int 4 :: [])) rfl ?_
  refine r_iretp B hr hM dX8_kind_6 ?_
  rfl
theorem Met.qp {l : Launch} {y : MethodName} {ws : List Cond} {rm : Room} {mc ms : Nat} {Pc : Array Value → State → Prop} {post post' : Int32 → Prop} {free : Addr → Prop} (h : Met l y ws rm Pc (Qp G th rh ph ka post) mc ms free) (hp : ∀ r, post r → post' r) : Met l y ws rm Pc (Qp G th rh ph ka post') mc ms free := by
  intro p en ha hc hk s m args below hf happ hP hK
  obtain ⟨n, o, h1, h2, h3, ⟨r, h4, h5, h6⟩, h7⟩ := h p en ha hc hk s m args below hf happ hP hK
  exact ⟨n, o, h1, h2, h3, ⟨r, h4, hp r h5, h6⟩, h7⟩
theorem Met.qi {l : Launch} {y : MethodName} {ws : List Cond} {rm : Room} {mc ms : Nat} {Pc : Array Value → State → Prop} {post post' : Int32 → Ka → Prop} {free : Addr → Prop} (h : Met l y ws rm Pc (Qi G th rh ph post) mc ms free) (hp : ∀ r k, post r k → post' r k) : Met l y ws rm Pc (Qi G th rh ph post') mc ms free := by
  intro p en ha hc hk s m args below hf happ hP hK
  obtain ⟨n, o, h1, h2, h3, ⟨r, k, h4, h5, h6⟩, h7⟩ := h p en ha hc hk s m args below hf happ hP hK
  exact ⟨n, o, h1, h2, h3, ⟨r, k, h4, hp r k h5, h6⟩, h7⟩
theorem Met.pi {l : Launch} {y : MethodName} {ws : List Cond} {rm : Room} {mc ms : Nat} {Pc : Array Value → State → Prop} {post : Int32 → Prop} {post' : Int32 → Ka → Prop} {free : Addr → Prop} (h : Met l y ws rm Pc (Qp G th rh ph ka post) mc ms free) (hp : ∀ r, post r → post' r ka) : Met l y ws rm Pc (Qi G th rh ph post') mc ms free := by
  intro p en ha hc hk s m args below hf happ hP hK
  obtain ⟨n, o, h1, h2, h3, ⟨r, h4, h5, h6⟩, h7⟩ := h p en ha hc hk s m args below hf happ hP hK
  exact ⟨n, o, h1, h2, h3, ⟨r, ka, h4, hp r h5, h6⟩, h7⟩
theorem q20 (f : Int32) : -200000000 < (f / 20).toInt ∧ (f / 20).toInt < 200000000 := by
  have h1 := Int32.le_toInt f
  have h2 := Int32.toInt_lt f
  have h3 : (f.toInt.tdiv 20).natAbs = f.toInt.natAbs / 20 := Int.natAbs_tdiv _ _
  have h4 : (f / 20).toInt = f.toInt.tdiv 20 := by
    rw [Int32.toInt_div]
    exact Int.bmod_eq_of_le (by show -2147483648 ≤ f.toInt.tdiv 20; omega) (by show f.toInt.tdiv 20 < 2147483648; omega)
  rw [h4]
  omega
theorem sub_toInt {x : Int32} {k : Int32} {n : Int} (hk : k.toInt = n) (h1 : -2147483648 ≤ x.toInt - n) (h2 : x.toInt - n < 2147483648) : (x - k).toInt = x.toInt - n := by
  rw [Int32.toInt_sub, hk]
  exact Int.bmod_eq_of_le h1 h2
theorem lk4 (f : Int32) : (if (0 : Int32) < f / 20 - 1 then f / 20 - 1 else 0) = lkT 4 f := by
  obtain ⟨h1, h2⟩ := q20 f
  have h3 := sub_toInt (x := f / 20) (k := 1) (n := 1) rfl (by omega) (by omega)
  show _ = if f / 20 < 1 then 0 else f / 20 - 1
  have c1 : ((0 : Int32) < f / 20 - 1) ↔ 1 < (f / 20).toInt := by rw [i32_lt, h3]; show (0 : Int) < _ ↔ _; omega
  have c2 : (f / 20 < 1) ↔ (f / 20).toInt < 1 := by rw [i32_lt]; exact Iff.rfl
  by_cases q : (f / 20).toInt < 1
  · rw [if_neg (fun z => by have := c1.mp z; omega), if_pos (c2.mpr q)]
  · rw [if_neg (fun z => q (c2.mp z))]
    by_cases q2 : 1 < (f / 20).toInt
    · rw [if_pos (c1.mpr q2)]
    · rw [if_neg (fun z => q2 (c1.mp z))]
      exact (Int32.toInt_inj.mp (by rw [h3]; show (0 : Int) = _; omega))
set_option maxHeartbeats 4000000 in
theorem ok_X4_full (hC : LayC th rh x c w P Q kd) : Met l yX4_full (ws_ yX4_full cX4_full 1 (some .int)) (RM 1 0 0) (Pc_ G [.ref c] th rh ph ka) (Qp G th rh ph ka (fun r => r = ka Q 0 + ka Q 1 + ka Q 2)) 0 0 (frG G) := by
  refine m_of (by decide) (Nat.le_of_ble_eq_true rfl) ?_
  intro p_ e_ s_ m_ below_ meth_ c_ B hr hnm ls hl hM
  have hx := B.1
  have hb := B.2.1
  have hM := hM
  obtain ⟨rc, hr_, hrN, hr0, hr1, hr2, hr3, hg0, hg1, hg2, hg3, hrC⟩ := gC4 hC.2.2.2.2
  refine lv_aload_n hx hb dX4_full_0 rfl (lv_at hl 0 rfl) ?_
  refine r_getq B hM 2 hC.1 hr_ (by rw [hrN]; decide) hr2 hg2 hC.2.1 q292 dX4_full_1 ?_
  refine lv_iconst (v := 0) hx hb dX4_full_4 (by decide) ?_
  refine r_ild B hM 0 hC.2.2.2.1 rfl (by decide) (by decide) dX4_full_5 ?_
  refine lv_aload_n hx hb dX4_full_6 rfl (lv_at hl 0 rfl) ?_
  refine r_getq B hM 2 hC.1 hr_ (by rw [hrN]; decide) hr2 hg2 hC.2.1 q292 dX4_full_7 ?_
  refine lv_iconst (v := 1) hx hb dX4_full_10 (by decide) ?_
  refine r_ild B hM 1 hC.2.2.2.1 rfl (by decide) (by decide) dX4_full_11 ?_
  refine lv_iadd hx hb dX4_full_12 ?_
  refine lv_aload_n hx hb dX4_full_13 rfl (lv_at hl 0 rfl) ?_
  refine r_getq B hM 2 hC.1 hr_ (by rw [hrN]; decide) hr2 hg2 hC.2.1 q292 dX4_full_14 ?_
  refine lv_iconst (v := 2) hx hb dX4_full_17 (by decide) ?_
  refine r_ild B hM 2 hC.2.2.2.1 rfl (by decide) (by decide) dX4_full_18 ?_
  refine lv_iadd hx hb dX4_full_19 ?_
  refine r_iretp B hr hM dX4_full_20 ?_
  rfl
theorem v_full (hC : LayC th rh x c w P Q kd) : VirtAt l G yX4_full c [] (some .int) 0 1 0 0 th rh ph ka (Qp G th rh ph ka (fun r => r = ka Q 0 + ka Q 1 + ka Q 2)) := by
  have hk := hC.2.2.2.2
  rcases kd_cases hk with rfl | rfl | rfl | rfl | rfl | rfl
  · exact ⟨yX4_full, cX4_full, 1, P, _, _, _, hC.1, rfl, calU_full_0, by decide, ok_X4_full hC⟩
  · exact ⟨yX4_full, cX4_full, 1, P, _, _, _, hC.1, rfl, calU_full_1, by decide, ok_X4_full hC⟩
  · exact ⟨yX4_full, cX4_full, 1, P, _, _, _, hC.1, rfl, calU_full_2, by decide, ok_X4_full hC⟩
  · exact ⟨yX4_full, cX4_full, 1, P, _, _, _, hC.1, rfl, calU_full_3, by decide, ok_X4_full hC⟩
  · exact ⟨yX4_full, cX4_full, 1, P, _, _, _, hC.1, rfl, calU_full_4, by decide, ok_X4_full hC⟩
  · exact ⟨yX4_full, cX4_full, 1, P, _, _, _, hC.1, rfl, calU_full_5, by decide, ok_X4_full hC⟩
theorem v_kind (hC : LayC th rh x c w P Q kd) : VirtAt l G yX4_kind c [] (some .int) 0 3 0 0 th rh ph ka (Qp G th rh ph ka (fun r => r = nI kd)) := by
  have hk := hC.2.2.2.2
  rcases kd_cases hk with rfl | rfl | rfl | rfl | rfl | rfl
  · exact ⟨yX4_kind, cX4_kind, 1, P, _, _, _, hC.1, rfl, calU_kind_0, by decide, ((ok_X4_kind hC).more (by decide)).qp (fun r h => h)⟩
  · exact ⟨yX5_kind, cX5_kind, 1, P, _, _, _, hC.1, rfl, calU_kind_1, by decide, ((ok_X5_kind hC).more (by decide)).qp (fun r h => h)⟩
  · exact ⟨yX6_kind, cX6_kind, 1, P, _, _, _, hC.1, rfl, calU_kind_2, by decide, ((ok_X6_kind hC).more (by decide)).qp (fun r h => h)⟩
  · exact ⟨yX7_kind, cX7_kind, 1, P, _, _, _, hC.1, rfl, calU_kind_3, by decide, ((ok_X7_kind hC).more (by decide)).qp (fun r h => h)⟩
  · exact ⟨yX8_kind, cX8_kind, 1, P, _, _, _, hC.1, rfl, calU_kind_4, by decide, ((ok_X8_kind hC).more (by decide)).qp (fun r h => h)⟩
  · exact ⟨yX9_kind, cX9_kind, 1, P, _, _, _, hC.1, rfl, calU_kind_5, by decide, ((ok_X9_kind hC).more (by decide)).qp (fun r h => h)⟩
set_option maxHeartbeats 4000000 in
theorem ok_X4_worth (hC : LayC th rh x c w P Q kd) : Met l yX4_worth (ws_ yX4_worth cX4_worth 1 (some .int)) (RM 1 0 0) (Pc_ G [.ref c] th rh ph ka) (Qp G th rh ph ka (fun r => r = ka P 1)) 0 0 (frG G) := by
  refine m_of (by decide) (Nat.le_of_ble_eq_true rfl) ?_
  intro p_ e_ s_ m_ below_ meth_ c_ B hr hnm ls hl hM
  have hx := B.1
  have hb := B.2.1
  have hM := hM
  obtain ⟨rc, hr_, hrN, hr0, hr1, hr2, hr3, hg0, hg1, hg2, hg3, hrC⟩ := gC4 hC.2.2.2.2
  refine lv_aload_n hx hb dX4_worth_0 rfl (lv_at hl 0 rfl) ?_
  refine r_geti B hM 1 hC.1 hr_ (by rw [hrN]; decide) hr1 hg1 q289 dX4_worth_1 ?_
  refine r_iretp B hr hM dX4_worth_4 ?_
  rfl
set_option maxHeartbeats 4000000 in
theorem ok_X5_worth (hC : LayC th rh x c w P Q kd) : Met l yX5_worth (ws_ yX5_worth cX5_worth 1 (some .int)) (RM 2 0 0) (Pc_ G [.ref c] th rh ph ka) (Qp G th rh ph ka (fun r => r = ka P 1 + 6)) 0 0 (frG G) := by
  refine m_of (by decide) (Nat.le_of_ble_eq_true rfl) ?_
  intro p_ e_ s_ m_ below_ meth_ c_ B hr hnm ls hl hM
  have hx := B.1
  have hb := B.2.1
  have hM := hM
  obtain ⟨rc, hr_, hrN, hr0, hr1, hr2, hr3, hg0, hg1, hg2, hg3, hrC⟩ := gC4 hC.2.2.2.2
  refine lv_aload_n hx hb dX5_worth_0 rfl (lv_at hl 0 rfl) ?_
  refine k_pe (v := ka P 1) (r_X (As := []) (rest := []) B hM hC.1 hr_ (ok_X4_worth hC) calX_5_worth q580 rfl hl.1 (Nat.le_of_ble_eq_true rfl) dX5_worth_1 ⟨Nat.le_of_ble_eq_true rfl, Nat.le_of_ble_eq_true rfl⟩ ⟨Nat.le_of_ble_eq_true rfl, Nat.le_of_ble_eq_true rfl⟩) hM (fun H locs hM => ?_)
  refine lv_bipush (v := 6) hx hb dX5_worth_4 (by decide) ?_
  refine lv_iadd hx hb dX5_worth_6 ?_
  refine r_iretp B hr hM dX5_worth_7 ?_
  rfl
set_option maxHeartbeats 4000000 in
theorem ok_X6_worth (hC : LayC th rh x c w P Q kd) : Met l yX6_worth (ws_ yX6_worth cX6_worth 1 (some .int)) (RM 2 0 0) (Pc_ G [.ref c] th rh ph ka) (Qp G th rh ph ka (fun r => r = 99 - ka P 1)) 0 0 (frG G) := by
  refine m_of (by decide) (Nat.le_of_ble_eq_true rfl) ?_
  intro p_ e_ s_ m_ below_ meth_ c_ B hr hnm ls hl hM
  have hx := B.1
  have hb := B.2.1
  have hM := hM
  obtain ⟨rc, hr_, hrN, hr0, hr1, hr2, hr3, hg0, hg1, hg2, hg3, hrC⟩ := gC4 hC.2.2.2.2
  refine lv_bipush (v := 99) hx hb dX6_worth_0 (by decide) ?_
  refine lv_aload_n hx hb dX6_worth_2 rfl (lv_at hl 0 rfl) ?_
  refine k_pe (v := ka P 1) (r_X (As := []) (rest := [.int 99]) B hM hC.1 hr_ (ok_X4_worth hC) calX_6_worth q576 rfl hl.1 (Nat.le_of_ble_eq_true rfl) dX6_worth_3 ⟨Nat.le_of_ble_eq_true rfl, Nat.le_of_ble_eq_true rfl⟩ ⟨Nat.le_of_ble_eq_true rfl, Nat.le_of_ble_eq_true rfl⟩) hM (fun H locs hM => ?_)
  refine lv_isub hx hb dX6_worth_6 ?_
  refine r_iretp B hr hM dX6_worth_7 ?_
  rfl
set_option maxHeartbeats 4000000 in
theorem ok_X7_worth (hC : LayC th rh x c w P Q kd) : Met l yX7_worth (ws_ yX7_worth cX7_worth 1 (some .int)) (RM 3 0 0) (Pc_ G [.ref c] th rh ph ka) (Qp G th rh ph ka (fun r => r = 2 * (ka P 1 + 6))) 0 0 (frG G) := by
  refine m_of (by decide) (Nat.le_of_ble_eq_true rfl) ?_
  intro p_ e_ s_ m_ below_ meth_ c_ B hr hnm ls hl hM
  have hx := B.1
  have hb := B.2.1
  have hM := hM
  obtain ⟨rc, hr_, hrN, hr0, hr1, hr2, hr3, hg0, hg1, hg2, hg3, hrC⟩ := gC4 hC.2.2.2.2
  refine lv_iconst (v := 2) hx hb dX7_worth_0 (by decide) ?_
  refine lv_aload_n hx hb dX7_worth_1 rfl (lv_at hl 0 rfl) ?_
  refine k_pe (v := ka P 1 + 6) (r_X (As := []) (rest := [.int 2]) B hM hC.1 hr_ (ok_X5_worth hC) calX_7_worth q588 rfl hl.1 (Nat.le_of_ble_eq_true rfl) dX7_worth_2 ⟨Nat.le_of_ble_eq_true rfl, Nat.le_of_ble_eq_true rfl⟩ ⟨Nat.le_of_ble_eq_true rfl, Nat.le_of_ble_eq_true rfl⟩) hM (fun H locs hM => ?_)
  refine lv_imul hx hb dX7_worth_5 ?_
  refine r_iretp B hr hM dX7_worth_6 ?_
  rfl
set_option maxHeartbeats 4000000 in
theorem ok_X8_worth (hC : LayC th rh x c w P Q kd) : Met l yX8_worth (ws_ yX8_worth cX8_worth 1 (some .int)) (RM 3 0 0) (Pc_ G [.ref c] th rh ph ka) (Qp G th rh ph ka (fun r => r = 99 - ka P 1 - 8)) 0 0 (frG G) := by
  refine m_of (by decide) (Nat.le_of_ble_eq_true rfl) ?_
  intro p_ e_ s_ m_ below_ meth_ c_ B hr hnm ls hl hM
  have hx := B.1
  have hb := B.2.1
  have hM := hM
  obtain ⟨rc, hr_, hrN, hr0, hr1, hr2, hr3, hg0, hg1, hg2, hg3, hrC⟩ := gC4 hC.2.2.2.2
  refine lv_aload_n hx hb dX8_worth_0 rfl (lv_at hl 0 rfl) ?_
  refine k_pe (v := 99 - ka P 1) (r_X (As := []) (rest := []) B hM hC.1 hr_ (ok_X6_worth hC) calX_8_worth q573 rfl hl.1 (Nat.le_of_ble_eq_true rfl) dX8_worth_1 ⟨Nat.le_of_ble_eq_true rfl, Nat.le_of_ble_eq_true rfl⟩ ⟨Nat.le_of_ble_eq_true rfl, Nat.le_of_ble_eq_true rfl⟩) hM (fun H locs hM => ?_)
  refine lv_bipush (v := 8) hx hb dX8_worth_4 (by decide) ?_
  refine lv_isub hx hb dX8_worth_6 ?_
  refine r_iretp B hr hM dX8_worth_7 ?_
  rfl
set_option maxHeartbeats 4000000 in
theorem ok_X9_worth (hC : LayC th rh x c w P Q kd) : Met l yX9_worth (ws_ yX9_worth cX9_worth 1 (some .int)) (RM 1 0 0) (Pc_ G [.ref c] th rh ph ka) (Qp G th rh ph ka (fun r => r = 3)) 0 0 (frG G) := by
  refine m_of (by decide) (Nat.le_of_ble_eq_true rfl) ?_
  intro p_ e_ s_ m_ below_ meth_ c_ B hr hnm ls hl hM
  have hx := B.1
  have hb := B.2.1
  have hM := hM
  obtain ⟨rc, hr_, hrN, hr0, hr1, hr2, hr3, hg0, hg1, hg2, hg3, hrC⟩ := gC4 hC.2.2.2.2
  refine lv_iconst (v := 3) hx hb dX9_worth_0 (by decide) ?_
  refine r_iretp B hr hM dX9_worth_1 ?_
  rfl
theorem wk8 (l : Int32) : 99 - l - 8 = 91 - l := by grind
theorem v_worth (hC : LayC th rh x c w P Q kd) : VirtAt l G yX4_worth c [] (some .int) 0 3 0 0 th rh ph ka (Qp G th rh ph ka (fun r => r = wkT (nI kd) (ka P 1))) := by
  have hk := hC.2.2.2.2
  rcases kd_cases hk with rfl | rfl | rfl | rfl | rfl | rfl
  · exact ⟨yX4_worth, cX4_worth, 1, P, _, _, _, hC.1, rfl, calU_worth_0, by decide, ((ok_X4_worth hC).more (by decide)).qp (fun r h => h)⟩
  · exact ⟨yX5_worth, cX5_worth, 1, P, _, _, _, hC.1, rfl, calU_worth_1, by decide, ((ok_X5_worth hC).more (by decide)).qp (fun r h => h)⟩
  · exact ⟨yX6_worth, cX6_worth, 1, P, _, _, _, hC.1, rfl, calU_worth_2, by decide, ((ok_X6_worth hC).more (by decide)).qp (fun r h => h)⟩
  · exact ⟨yX7_worth, cX7_worth, 1, P, _, _, _, hC.1, rfl, calU_worth_3, by decide, ((ok_X7_worth hC).more (by decide)).qp (fun r h => h)⟩
  · exact ⟨yX8_worth, cX8_worth, 1, P, _, _, _, hC.1, rfl, calU_worth_4, by decide, ((ok_X8_worth hC).more (by decide)).qp (fun r h => h.trans (wk8 _))⟩
  · exact ⟨yX9_worth, cX9_worth, 1, P, _, _, _, hC.1, rfl, calU_worth_5, by decide, ((ok_X9_worth hC).more (by decide)).qp (fun r h => h)⟩
theorem f_weigh (hC : LayC th rh x c w P Q kd) : FaceAt l G ⟨"LevelCellars$Weighs", "worth", "()I"⟩ c [] (some .int) 0 3 0 0 th rh ph ka (Qp G th rh ph ka (fun r => r = wkT (nI kd) (ka P 1))) := by
  have hk := hC.2.2.2.2
  rcases kd_cases hk with rfl | rfl | rfl | rfl | rfl | rfl
  · exact ⟨yX4_worth, cX4_worth, 1, P, _, _, hC.1, rfl, calF_weigh_0, by decide, ((ok_X4_worth hC).more (by decide)).qp (fun r h => h)⟩
  · exact ⟨yX5_worth, cX5_worth, 1, P, _, _, hC.1, rfl, calF_weigh_1, by decide, ((ok_X5_worth hC).more (by decide)).qp (fun r h => h)⟩
  · exact ⟨yX6_worth, cX6_worth, 1, P, _, _, hC.1, rfl, calF_weigh_2, by decide, ((ok_X6_worth hC).more (by decide)).qp (fun r h => h)⟩
  · exact ⟨yX7_worth, cX7_worth, 1, P, _, _, hC.1, rfl, calF_weigh_3, by decide, ((ok_X7_worth hC).more (by decide)).qp (fun r h => h)⟩
  · exact ⟨yX8_worth, cX8_worth, 1, P, _, _, hC.1, rfl, calF_weigh_4, by decide, ((ok_X8_worth hC).more (by decide)).qp (fun r h => h.trans (wk8 _))⟩
  · exact ⟨yX9_worth, cX9_worth, 1, P, _, _, hC.1, rfl, calF_weigh_5, by decide, ((ok_X9_worth hC).more (by decide)).qp (fun r h => h)⟩
set_option maxHeartbeats 4000000 in
theorem ok_X4_takes (hC : LayC th rh x c w P Q kd) (n : Int32) : Met l yX4_takes (ws_ yX4_takes cX4_takes 2 (some .int)) (RM 1 0 0) (Pc_ G [.ref c, .int n] th rh ph ka) (Qp G th rh ph ka (fun r => r = n)) 0 0 (frG G) := by
  refine m_of (by decide) (Nat.le_of_ble_eq_true rfl) ?_
  intro p_ e_ s_ m_ below_ meth_ c_ B hr hnm ls hl hM
  have hx := B.1
  have hb := B.2.1
  have hM := hM
  obtain ⟨rc, hr_, hrN, hr0, hr1, hr2, hr3, hg0, hg1, hg2, hg3, hrC⟩ := gC4 hC.2.2.2.2
  refine lv_iload_n hx hb dX4_takes_0 rfl (lv_at hl 1 rfl) ?_
  refine r_iretp B hr hM dX4_takes_1 ?_
  rfl
set_option maxHeartbeats 4000000 in
theorem ok_X7_takes (hC : LayC th rh x c w P Q kd) (n : Int32) : Met l yX7_takes (ws_ yX7_takes cX7_takes 2 (some .int)) (RM 2 0 0) (Pc_ G [.ref c, .int n] th rh ph ka) (Qp G th rh ph ka (fun r => r = n / 2)) 0 0 (frG G) := by
  refine m_of (by decide) (Nat.le_of_ble_eq_true rfl) ?_
  intro p_ e_ s_ m_ below_ meth_ c_ B hr hnm ls hl hM
  have hx := B.1
  have hb := B.2.1
  have hM := hM
  obtain ⟨rc, hr_, hrN, hr0, hr1, hr2, hr3, hg0, hg1, hg2, hg3, hrC⟩ := gC4 hC.2.2.2.2
  refine lv_aload_n hx hb dX7_takes_0 rfl (lv_at hl 0 rfl) ?_
  refine lv_iload_n hx hb dX7_takes_1 rfl (lv_at hl 1 rfl) ?_
  refine k_pe (v := n) (r_X (As := [.int n]) (rest := []) B hM hC.1 hr_ (ok_X4_takes hC n) calX_7_takes q608 rfl hl.1 (Nat.le_of_ble_eq_true rfl) dX7_takes_2 ⟨Nat.le_of_ble_eq_true rfl, Nat.le_of_ble_eq_true rfl⟩ ⟨Nat.le_of_ble_eq_true rfl, Nat.le_of_ble_eq_true rfl⟩) hM (fun H locs hM => ?_)
  refine lv_iconst (v := 2) hx hb dX7_takes_5 (by decide) ?_
  refine lv_idiv hx hb dX7_takes_6 (by decide) ?_
  refine r_iretp B hr hM dX7_takes_7 ?_
  rfl
set_option maxHeartbeats 4000000 in
theorem ok_X9_takes (hC : LayC th rh x c w P Q kd) (n : Int32) : Met l yX9_takes (ws_ yX9_takes cX9_takes 2 (some .int)) (RM 1 0 0) (Pc_ G [.ref c, .int n] th rh ph ka) (Qp G th rh ph ka (fun r => r = 0)) 0 0 (frG G) := by
  refine m_of (by decide) (Nat.le_of_ble_eq_true rfl) ?_
  intro p_ e_ s_ m_ below_ meth_ c_ B hr hnm ls hl hM
  have hx := B.1
  have hb := B.2.1
  have hM := hM
  obtain ⟨rc, hr_, hrN, hr0, hr1, hr2, hr3, hg0, hg1, hg2, hg3, hrC⟩ := gC4 hC.2.2.2.2
  refine lv_iconst (v := 0) hx hb dX9_takes_0 (by decide) ?_
  refine r_iretp B hr hM dX9_takes_1 ?_
  rfl
theorem v_takes (hC : LayC th rh x c w P Q kd) (n : Int32) : VirtAt l G yX4_takes c [.int n] (some .int) 1 2 0 0 th rh ph ka (Qp G th rh ph ka (fun r => r = tkT (nI kd) n)) := by
  have hk := hC.2.2.2.2
  rcases kd_cases hk with rfl | rfl | rfl | rfl | rfl | rfl
  · exact ⟨yX4_takes, cX4_takes, 2, P, _, _, _, hC.1, rfl, calU_takes_0, by decide, ((ok_X4_takes hC n).more (by decide)).qp (fun r h => h)⟩
  · exact ⟨yX4_takes, cX4_takes, 2, P, _, _, _, hC.1, rfl, calU_takes_1, by decide, ((ok_X4_takes hC n).more (by decide)).qp (fun r h => h)⟩
  · exact ⟨yX4_takes, cX4_takes, 2, P, _, _, _, hC.1, rfl, calU_takes_2, by decide, ((ok_X4_takes hC n).more (by decide)).qp (fun r h => h)⟩
  · exact ⟨yX7_takes, cX7_takes, 2, P, _, _, _, hC.1, rfl, calU_takes_3, by decide, ((ok_X7_takes hC n).more (by decide)).qp (fun r h => h)⟩
  · exact ⟨yX4_takes, cX4_takes, 2, P, _, _, _, hC.1, rfl, calU_takes_4, by decide, ((ok_X4_takes hC n).more (by decide)).qp (fun r h => h)⟩
  · exact ⟨yX9_takes, cX9_takes, 2, P, _, _, _, hC.1, rfl, calU_takes_5, by decide, ((ok_X9_takes hC n).more (by decide)).qp (fun r h => h)⟩
set_option maxHeartbeats 4000000 in
theorem ok_X4_loses (hC : LayC th rh x c w P Q kd) : Met l yX4_loses (ws_ yX4_loses cX4_loses 1 (some .int)) (RM 1 0 0) (Pc_ G [.ref c] th rh ph ka) (Qp G th rh ph ka (fun r => r = 0)) 0 0 (frG G) := by
  refine m_of (by decide) (Nat.le_of_ble_eq_true rfl) ?_
  intro p_ e_ s_ m_ below_ meth_ c_ B hr hnm ls hl hM
  have hx := B.1
  have hb := B.2.1
  have hM := hM
  obtain ⟨rc, hr_, hrN, hr0, hr1, hr2, hr3, hg0, hg1, hg2, hg3, hrC⟩ := gC4 hC.2.2.2.2
  refine lv_iconst (v := 0) hx hb dX4_loses_0 (by decide) ?_
  refine r_iretp B hr hM dX4_loses_1 ?_
  rfl
theorem v_lfull (hC : LayC th rh x c w P Q kd) (hk : kd = 2 ∨ kd = 4) : VirtAt l G ⟨"LevelCellars$Leaky", "full", "()I"⟩ c [] (some .int) 0 1 0 0 th rh ph ka (Qp G th rh ph ka (fun r => r = ka Q 0 + ka Q 1 + ka Q 2)) := by
  rcases hk with rfl | rfl
  · exact ⟨yX4_full, cX4_full, 1, P, _, _, _, hC.1, rfl, calU_lfull_2, by decide, ok_X4_full hC⟩
  · exact ⟨yX4_full, cX4_full, 1, P, _, _, _, hC.1, rfl, calU_lfull_4, by decide, ok_X4_full hC⟩
set_option maxHeartbeats 4000000 in
theorem ok_X6_loses (hC : LayC th rh x c w P Q kd) (hk : kd = 2 ∨ kd = 4) : Met l yX6_loses (ws_ yX6_loses cX6_loses 1 (some .int)) (RM 2 0 0) (Pc_ G [.ref c] th rh ph ka) (Qp G th rh ph ka (fun r => r = (ka Q 0 + ka Q 1 + ka Q 2) / 20)) 0 0 (frG G) := by
  refine m_of (by decide) (Nat.le_of_ble_eq_true rfl) ?_
  intro p_ e_ s_ m_ below_ meth_ c_ B hr hnm ls hl hM
  have hx := B.1
  have hb := B.2.1
  have hM := hM
  obtain ⟨rc, hr_, hrN, hr0, hr1, hr2, hr3, hg0, hg1, hg2, hg3, hrC⟩ := gC4 hC.2.2.2.2
  refine lv_aload_n hx hb dX6_loses_0 rfl (lv_at hl 0 rfl) ?_
  refine k_pe (v := ka Q 0 + ka Q 1 + ka Q 2) (r_VA (As := []) (rest := []) B hM (v_lfull hC hk) q428 rfl hl.1 (Nat.le_of_ble_eq_true rfl) dX6_loses_1 ⟨Nat.le_of_ble_eq_true rfl, Nat.le_of_ble_eq_true rfl⟩ ⟨Nat.le_of_ble_eq_true rfl, Nat.le_of_ble_eq_true rfl⟩) hM (fun H locs hM => ?_)
  refine lv_bipush (v := 20) hx hb dX6_loses_4 (by decide) ?_
  refine lv_idiv hx hb dX6_loses_6 (by decide) ?_
  refine r_iretp B hr hM dX6_loses_7 ?_
  rfl
set_option maxHeartbeats 4000000 in
theorem ok_X8_loses (hC : LayC th rh x c w P Q kd) (hk : kd = 2 ∨ kd = 4) : Met l yX8_loses (ws_ yX8_loses cX8_loses 1 (some .int)) (RM 3 0 0) (Pc_ G [.ref c] th rh ph ka) (Qp G th rh ph ka (fun r => r = lkT 4 (ka Q 0 + ka Q 1 + ka Q 2))) 0 0 (frG G) := by
  refine m_of (by decide) (Nat.le_of_ble_eq_true rfl) ?_
  intro p_ e_ s_ m_ below_ meth_ c_ B hr hnm ls hl hM
  have hx := B.1
  have hb := B.2.1
  have hM := hM
  obtain ⟨rc, hr_, hrN, hr0, hr1, hr2, hr3, hg0, hg1, hg2, hg3, hrC⟩ := gC4 hC.2.2.2.2
  refine lv_iconst (v := 0) hx hb dX8_loses_0 (by decide) ?_
  refine lv_aload_n hx hb dX8_loses_1 rfl (lv_at hl 0 rfl) ?_
  refine k_pe (v := (ka Q 0 + ka Q 1 + ka Q 2) / 20) (r_X (As := []) (rest := [.int 0]) B hM hC.1 hr_ (ok_X6_loses hC hk) calX_8_loses q557 rfl hl.1 (Nat.le_of_ble_eq_true rfl) dX8_loses_2 ⟨Nat.le_of_ble_eq_true rfl, Nat.le_of_ble_eq_true rfl⟩ ⟨Nat.le_of_ble_eq_true rfl, Nat.le_of_ble_eq_true rfl⟩) hM (fun H locs hM => ?_)
  refine lv_iconst (v := 1) hx hb dX8_loses_5 (by decide) ?_
  refine lv_isub hx hb dX8_loses_6 ?_
  refine va_mmax hx hb (B.2.2.1.trans hl.1.symm) B.2.2.2.1 (B.ts _ q560) (B.ts _ q449) (B.ts _ q83) (B.ts _ q450) (Nat.le_of_ble_eq_true rfl) (Nat.le_of_ble_eq_true rfl) (Nat.le_of_ble_eq_true rfl) (Nat.le_of_ble_eq_true rfl) dX8_loses_7 ?_
  refine r_iretp B hr hM dX8_loses_10 ?_
  exact lk4 (ka Q 0 + ka Q 1 + ka Q 2)
theorem v_loses (hC : LayC th rh x c w P Q kd) : VirtAt l G yX4_loses c [] (some .int) 0 3 0 0 th rh ph ka (Qp G th rh ph ka (fun r => r = lkT (nI kd) (ka Q 0 + ka Q 1 + ka Q 2))) := by
  have hk := hC.2.2.2.2
  rcases kd_cases hk with rfl | rfl | rfl | rfl | rfl | rfl
  · exact ⟨yX4_loses, cX4_loses, 1, P, _, _, _, hC.1, rfl, calU_loses_0, by decide, ((ok_X4_loses hC).more (by decide)).qp (fun r h => h)⟩
  · exact ⟨yX4_loses, cX4_loses, 1, P, _, _, _, hC.1, rfl, calU_loses_1, by decide, ((ok_X4_loses hC).more (by decide)).qp (fun r h => h)⟩
  · exact ⟨yX6_loses, cX6_loses, 1, P, _, _, _, hC.1, rfl, calU_loses_2, by decide, ((ok_X6_loses hC (Or.inl rfl)).more (by decide)).qp (fun r h => h)⟩
  · exact ⟨yX4_loses, cX4_loses, 1, P, _, _, _, hC.1, rfl, calU_loses_3, by decide, ((ok_X4_loses hC).more (by decide)).qp (fun r h => h)⟩
  · exact ⟨yX8_loses, cX8_loses, 1, P, _, _, _, hC.1, rfl, calU_loses_4, by decide, ((ok_X8_loses hC (Or.inr rfl)).more (by decide)).qp (fun r h => h)⟩
  · exact ⟨yX4_loses, cX4_loses, 1, P, _, _, _, hC.1, rfl, calU_loses_5, by decide, ((ok_X4_loses hC).more (by decide)).qp (fun r h => h)⟩
set_option maxHeartbeats 4000000 in
theorem ok_X4_empties (hC : LayC th rh x c w P Q kd) : Met l yX4_empties (ws_ yX4_empties cX4_empties 2 none) (RM 1 0 0) (Pc_ G [.ref c] th rh ph ka) (Qv G th rh ph (fun ka' => But [Q] ka ka' ∧ ∀ j, j < 3 → ka' Q j = 0)) 0 0 (frG G) := by
  refine m_of (by decide) (Nat.le_of_ble_eq_true rfl) ?_
  intro p_ e_ s_ m_ below_ meth_ c_ B hr hnm ls hl hM
  have hx := B.1
  have hb := B.2.1
  have hM := hM
  obtain ⟨rc, hr_, hrN, hr0, hr1, hr2, hr3, hg0, hg1, hg2, hg3, hrC⟩ := gC4 hC.2.2.2.2
  have loop : ∀ (fu_loop : Nat) (i : Nat) (kb : Ka), 3 - i < fu_loop → (i ≤ 3) → (∀ j, j < i → kb Q j = 0) → (But [Q] ka kb) → ∀ (ls : Array Slot) (H : Heap) (locs : List Loc), lv_has ls 2 [(0, .ref c), (1, .int (nI i))] → Md G th rh ph kb H locs → W p_ l e_ (RM 1 0 0) s_ m_ ([.ref c].toArray) below_ meth_ c_ H locs 0 0 (MQ below_ (Qv G th rh ph (fun ka' => But [Q] ka ka' ∧ ∀ j, j < 3 → ka' Q j = 0)) ([.ref c].toArray) s_ 0 0 (frG G)) (F0 m_ 2 ls []) := by
    intro fu_loop
    induction fu_loop with
    | zero => intro i kb hfu; exact absurd hfu (Nat.not_lt_zero _)
    | succ fu_loop ih_loop =>
      intro i kb hfu_loop hi hz hbu ls H locs hl hM
      refine lv_iload_n hx hb dX4_empties_2 rfl (lv_at hl 1 rfl) ?_
      refine lv_iconst (v := 3) hx hb dX4_empties_3 (by decide) ?_
      refine lv_icmp_ge (tgt := 20) hx hb dX4_empties_4 (by decide) (fun c4 => ?_) (fun c4 => ?_)
      · have n4 : 3 ≤ i := ntLe rfl rfl (by omega) (by omega) c4
        refine r_vret B hr hM dX4_empties_20 ?_
        exact ⟨hbu, fun j hj => hz j (by omega)⟩
      · have n4 : i < 3 := ntNle rfl rfl (by omega) (by omega) c4
        refine lv_aload_n hx hb dX4_empties_7 rfl (lv_at hl 0 rfl) ?_
        refine r_getq B hM 2 hC.1 hr_ (by rw [hrN]; decide) hr2 hg2 hC.2.1 q292 dX4_empties_8 ?_
        refine lv_iload_n hx hb dX4_empties_11 rfl (lv_at hl 1 rfl) ?_
        refine lv_iconst (v := 0) hx hb dX4_empties_12 (by decide) ?_
        refine r_ist B hM i hC.2.2.2.1 rfl (by omega) (by decide) dX4_empties_13 (fun ka_1 H locs eka_1 hM => ?_)
        refine lv_iinc (v := nI (i + 1)) (lv' := [(1, .int (nI (i + 1))), (0, .ref c)]) hx hb dX4_empties_14 hl (k := 1) rfl (nI_1 _) (by decide) rfl (fun ls hl => ?_)
        refine lv_goto (tgt := 2) hx hb dX4_empties_17 (by decide) ?_
        exact ih_loop (i + 1) ka_1 (by omega) (by omega) (fw_step (f := fun _ => 0) eka_1 hz) (But.trans hbu (by rw [eka_1]; exact But.up (by simp))) _ _ _ (lv_sub hl [1, 0] rfl) hM
  refine lv_iconst (v := 0) hx hb dX4_empties_0 (by decide) ?_
  refine lv_istore_n (lv' := [(1, .int 0), (0, .ref c)]) hx hb dX4_empties_1 rfl hl (by decide) rfl (fun ls hl => ?_)
  exact loop 4 0 ka (by omega) (Nat.zero_le _) (fun j hj => absurd hj (Nat.not_lt_zero _)) But.refl _ _ _ (lv_sub hl [1, 0] rfl) hM
theorem v_empties (hC : LayC th rh x c w P Q kd) : VirtAt l G yX4_empties c [] none 0 1 0 0 th rh ph ka (Qv G th rh ph (fun ka' => But [Q] ka ka' ∧ ∀ j, j < 3 → ka' Q j = 0)) := by
  have hk := hC.2.2.2.2
  rcases kd_cases hk with rfl | rfl | rfl | rfl | rfl | rfl
  · exact ⟨yX4_empties, cX4_empties, 2, P, _, _, _, hC.1, rfl, calU_empties_0, by decide, ok_X4_empties hC⟩
  · exact ⟨yX4_empties, cX4_empties, 2, P, _, _, _, hC.1, rfl, calU_empties_1, by decide, ok_X4_empties hC⟩
  · exact ⟨yX4_empties, cX4_empties, 2, P, _, _, _, hC.1, rfl, calU_empties_2, by decide, ok_X4_empties hC⟩
  · exact ⟨yX4_empties, cX4_empties, 2, P, _, _, _, hC.1, rfl, calU_empties_3, by decide, ok_X4_empties hC⟩
  · exact ⟨yX4_empties, cX4_empties, 2, P, _, _, _, hC.1, rfl, calU_empties_4, by decide, ok_X4_empties hC⟩
  · exact ⟨yX4_empties, cX4_empties, 2, P, _, _, _, hC.1, rfl, calU_empties_5, by decide, ok_X4_empties hC⟩
end
