/-! pure methods; numbers -/
set_option maxRecDepth 100000
/-- the end of a method that only reads -/
def Qp (G : GG) (th : Th) (rh : Rh) (ph : Ph) (ka : Ka) (post : Int32 → Prop) : Array Value → State → Outcome → State → Prop := fun _ _ oc t => ∃ (r : Int32), oc = .returned (some (.int r)) ∧ post r ∧ Mem G th rh ph ka t.heap
section RP
variable {p : Program} {l : Launch} {e : Env} {R : Room} {s : State} {m : MethodId} {args : Array Value} {below : List Frame} {meth : Method} {c : Code} {H : Heap} {locs : List Loc} {cells slots : Nat} {Q : State → Prop}
variable {cc : ByteArray} {nL pc : Nat} {own : String} {ls : Array Slot} {rest : List Value} {G : GG} {th : Th} {rh : Rh} {ph : Ph} {ka : Ka} {mc ms : Nat} {st0 : List Value} {a0 : Array Value}
theorem r_iretp {post : Int32 → Prop} {v : Int32} (B : Cx G p s m args meth c cc nL own) (hr : meth.sig.returnType = some .int) (hM : Md G th rh ph ka H locs) (hdg : decode cc pc = .ok (.ireturn, 1)) (hp : post v) : W p l e R s m args below meth c H locs cells slots (MQ below (Qp G th rh ph ka post) args s cells slots (frG G)) (F0 m pc ls [.int v]) :=
  W.iret B.1 B.2.1 hr (fun t ht hW => ⟨v, rfl, hp, by rw [ht]; exact hM.1⟩) hM.2 hdg (hlocks := B.2.2.2.2.2.1)
theorem r_zretp {post : Int32 → Prop} {v : Int32} (B : Cx G p s m args meth c cc nL own) (hr : meth.sig.returnType = some .boolean) (hM : Md G th rh ph ka H locs) (hdg : decode cc pc = .ok (.ireturn, 1)) (hv : v = 0 ∨ v = 1) (hp : post v) : W p l e R s m args below meth c H locs cells slots (MQ below (Qp G th rh ph ka post) args s cells slots (frG G)) (F0 m pc ls [.int v]) :=
  W.zret B.1 B.2.1 hr (by rcases hv with rfl | rfl <;> rfl) (fun t ht hW => ⟨v, rfl, hp, by rw [ht]; exact hM.1⟩) hM.2 hdg (hlocks := B.2.2.2.2.2.1)
theorem k_p {post : Int32 → Prop} (hr : va_Run p l e R s m args below meth c H locs cells slots mc ms (F0 m pc ls st0) rest (Qp G th rh ph ka post a0) (frG G)) (hM : Md G th rh ph ka H locs)
    (kk : ∀ (r : Int32) (H : Heap) (locs : List Loc), post r → Md G th rh ph ka H locs → W p l e R s m args below meth c H locs (cells + mc) (slots + ms) Q (F0 m (pc + 3) ls (.int r :: rest))) : W p l e R s m args below meth c H locs cells slots Q (F0 m pc ls st0) := by
  intro T hT X
  obtain ⟨v, st₀, t, T', L, h0, X', hL, e1, e2, ⟨r, hv, hp, hm⟩, st⟩ := hr T hT X
  cases hv
  obtain ⟨t2, a1, b1⟩ := kk r T'.heap (locs ++ L) hp (hM.after e1 hm hL) T' rfl X'
  exact ⟨t2, st t2 a1, b1⟩
/-- the same, the answer being known -/
theorem k_pe {v : Int32} (hr : va_Run p l e R s m args below meth c H locs cells slots mc ms (F0 m pc ls st0) rest (Qp G th rh ph ka (fun r => r = v) a0) (frG G)) (hM : Md G th rh ph ka H locs)
    (kk : ∀ (H : Heap) (locs : List Loc), Md G th rh ph ka H locs → W p l e R s m args below meth c H locs (cells + mc) (slots + ms) Q (F0 m (pc + 3) ls (.int v :: rest))) : W p l e R s m args below meth c H locs cells slots Q (F0 m pc ls st0) :=
  k_p hr hM (fun r H locs hp hM => by subst hp; exact kk H locs hM)
/-- a Boolean answer -/
theorem k_pb {P : Prop} (hr : va_Run p l e R s m args below meth c H locs cells slots mc ms (F0 m pc ls st0) rest (Qp G th rh ph ka (fun r => (r = 1 ∧ P) ∨ (r = 0 ∧ ¬ P)) a0) (frG G)) (hM : Md G th rh ph ka H locs)
    (kt : ∀ (H : Heap) (locs : List Loc), P → Md G th rh ph ka H locs → W p l e R s m args below meth c H locs (cells + mc) (slots + ms) Q (F0 m (pc + 3) ls (.int 1 :: rest))) (kf : ∀ (H : Heap) (locs : List Loc), ¬ P → Md G th rh ph ka H locs → W p l e R s m args below meth c H locs (cells + mc) (slots + ms) Q (F0 m (pc + 3) ls (.int 0 :: rest))) : W p l e R s m args below meth c H locs cells slots Q (F0 m pc ls st0) :=
  k_p hr hM (fun r H locs hp hM => by
    rcases hp with ⟨rfl, h⟩ | ⟨rfl, h⟩
    · exact kt H locs h hM
    · exact kf H locs h hM)
end RP
theorem nA (a b : Nat) : nI (a + b) = nI a + nI b := (nI_add a b).symm
theorem nMu (a b : Nat) : nI (a * b) = nI a * nI b := (pk_mul a b).symm
theorem nL (n : Nat) : nI (no_index (OfNat.ofNat n)) = OfNat.ofNat n := rfl
/-- an index: a term of sums and products is the number -/
theorem n7 {k w : Nat} : (7 : Int32) + 6 * nI k + nI w = nI (7 + 6 * k + w) := by simp only [nA, nMu, nL]
theorem i32_le {x y : Int32} : x ≤ y ↔ x.toInt ≤ y.toInt := Int32.le_iff_toInt_le
theorem i32_lt {x y : Int32} : x < y ↔ x.toInt < y.toInt := Int32.lt_iff_toInt_lt
theorem nI_ofI {x : Int32} (h : 0 ≤ x.toInt) : x = nI x.toInt.toNat := Int32.toInt_inj.mp (by
  rw [nI_toInt (by have := Int32.toInt_lt x; omega)]; omega)
/-- between two bounds that are numbers -/
theorem nI_btw {x : Int32} {a b : Nat} (ha : a < 2 ^ 31) (hb : b < 2 ^ 31) (h1 : nI a ≤ x) (h2 : x ≤ nI b) : ∃ k : Nat, a ≤ k ∧ k ≤ b ∧ x = nI k := by
  rw [i32_le, nI_toInt ha] at h1
  rw [i32_le, nI_toInt hb] at h2
  exact ⟨x.toInt.toNat, by omega, by omega, nI_ofI (by omega)⟩
section RV
variable {p : Program} {l : Launch} {e : Env} {R : Room} {s : State} {m : MethodId} {args : Array Value} {below : List Frame} {meth : Method} {c : Code} {H : Heap} {locs : List Loc} {cells slots : Nat} {Q : State → Prop}
variable {cc : ByteArray} {nL pc : Nat} {own : String} {ls : Array Slot} {rest : List Value} {G : GG} {th : Th} {rh : Rh} {ph : Ph} {ka : Ka} {mc ms : Nat} {st0 : List Value} {a0 : Array Value}
/-- the value on top under another name -/
theorem r_topv {x v : Int32} (hv : x = v) (kk : W p l e R s m args below meth c H locs cells slots Q (F0 m pc ls (.int v :: rest))) : W p l e R s m args below meth c H locs cells slots Q (F0 m pc ls (.int x :: rest)) := by rw [hv]; exact kk
theorem r_toplv {x v : Int64} (hv : x = v) (kk : W p l e R s m args below meth c H locs cells slots Q (F0 m pc ls (.long v :: rest))) : W p l e R s m args below meth c H locs cells slots Q (F0 m pc ls (.long x :: rest)) := by rw [hv]; exact kk
end RV
