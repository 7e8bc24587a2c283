/-! THE CALLS as plain functions: answers (A_) and states (S_); a state is the model's rows by the number of the field: 0 now, 1 image, 7 tape, 25 sorts, 26 sizes, 27 cells, 28 holds, 29 holdsA, 30 holdsB, 31 heldCells, 33 tells; 99: 3 hasImage, 8 taped, 34 waiting -/
set_option maxRecDepth 100000
abbrev cBAD : Int32 := -1000000001
abbrev cNO : Int32 := -1000000002
abbrev cFULL : Int32 := -1000000003
abbrev cNONE : Int32 := -1000000005
abbrev cNOTHING : Int32 := -1000000011
abbrev cKIND : Int32 := -1000000012
abbrev cINDEX : Int32 := -1000000013
abbrev cSIZE : Int32 := -1000000014
/-- a place below n -/
abbrev inC (c : Int32) (n : Nat) : Prop := 0 ≤ c ∧ c.toNatClampNeg < n
abbrev btw (v a b : Int32) : Prop := a ≤ v ∧ v ≤ b
abbrev cl (c : Int32) : Nat := c.toNatClampNeg
theorem inC_iff {c : Int32} {n : Nat} (hn : n < 2 ^ 31) : inC c n ↔ ∃ k : Nat, k < n ∧ c = nI k := by
  constructor
  · rintro ⟨h1, h2⟩
    obtain ⟨k, hk, rfl⟩ := nI_of (i_nlt.mpr h1)
    rw [nI_clamp hk] at h2
    exact ⟨k, h2, rfl⟩
  · rintro ⟨k, hk, rfl⟩
    exact ⟨nI_pos' (by omega), by rw [nI_clamp (by omega)]; exact hk⟩
theorem cl_nI {n : Nat} (h : n < 2 ^ 31) : cl (nI n) = n := nI_clamp h
/-- the state of the model -/
def sg (ka : Ka) : Ka := fun j => ka (1000 + j)
/-- what of a state counts -/
def Rel (s u : Ka) : Prop := (∀ j ∈ [0, 1, 7, 15, 16, 25, 26, 27, 28, 29, 30, 31, 33], u j = s j) ∧ ∀ k ∈ [3, 8, 34], u 99 k = s 99 k
abbrev badC (kd fl lp : Int32) : Prop := ¬ btw kd 0 5 ∨ ¬ btw fl 0 99 ∨ ¬ btw lp 1 99
def A_cellar (s : Ka) (kd fl lp : Int32) : Int32 := if badC kd fl lp then cBAD else if s 0 1 = 8 then cFULL else s 0 1
def S_cellar (s : Ka) (kd fl lp : Int32) : Ka := if badC kd fl lp then s else if s 0 1 = 8 then s else up1 s 0 (comeT (s 0) kd fl lp)
def A_told (s : Ka) (c w : Int32) : Int32 :=
  if ¬ inC c (nC (s 0)) then cBAD else if w = 0 then s 0 (7 + 6 * cl c + 0) else if w = 1 then s 0 (7 + 6 * cl c + 1) else if w = 2 then s 0 (7 + 6 * cl c + 2) else if w = 3 then fullT (s 0) (cl c) else if w = 4 then highT (s 0) (cl c) else if w = 5 then levelT (s 0) (cl c) else if w = 6 then losesT (s 0) (cl c) else if w = 7 then worthT (s 0) (cl c) else if w = 8 then s 0 (7 + 6 * cl c + 3) else if w = 9 then s 0 (7 + 6 * cl c + 4) else if w = 10 then s 0 (7 + 6 * cl c + 5) else cBAD
def A_takes (s : Ka) (c n : Int32) : Int32 := if inC c (nC (s 0)) ∧ btw n 0 9999 then takesT (s 0) (cl c) n else cBAD
def A_as (s : Ka) (c kd : Int32) : Int32 := if ¬ inC c (nC (s 0)) ∨ ¬ btw kd 0 5 then cBAD else if underT (s 0 (7 + 6 * cl c + 0)) kd then s 0 (7 + 6 * cl c + 2) else cKIND
def A_turns (s : Ka) (c kd : Int32) : Int32 := if inC c (nC (s 0)) ∧ btw kd 0 5 then s 0 (7 + 6 * cl c + 0) else cBAD
def S_turns (s : Ka) (c kd : Int32) : Ka := if inC c (nC (s 0)) ∧ btw kd 0 5 then up2 s 0 (7 + 6 * cl c + 0) kd else s
/-- which place of a cellar 'set' writes -/
def setW (w v : Int32) : Option Nat := if w = 1 ∧ btw v 0 99 then some 1 else if w = 2 ∧ btw v 1 99 then some 2 else if w = 8 ∧ btw v 0 999 then some 3 else if w = 9 ∧ btw v 0 999 then some 4 else if w = 10 ∧ btw v 0 999 then some 5 else none
def A_set (s : Ka) (c w v : Int32) : Int32 := if inC c (nC (s 0)) then (match setW w v with
  | some k => s 0 (7 + 6 * cl c + k)
  | none => cBAD) else cBAD
def S_set (s : Ka) (c w v : Int32) : Ka := if inC c (nC (s 0)) then (match setW w v with
  | some k => up2 s 0 (7 + 6 * cl c + k) v
  | none => s) else s
abbrev badP (s : Ka) (a b w : Int32) : Prop := ¬ inC a (nC (s 0)) ∨ ¬ inC b (nC (s 0)) ∨ a = b ∨ ¬ btw w 1 9
def A_pipe (s : Ka) (a b w : Int32) : Int32 := if badP s a b w then cBAD else if s 0 2 = 12 then cFULL else s 0 2
def S_pipe (s : Ka) (a b w : Int32) : Ka := if badP s a b w then s else if s 0 2 = 12 then s else up1 s 0 (rw1 (layT (s 0) (nP (s 0)) a b w) 2 (s 0 2 + 1))
def A_pipeOf (s : Ka) (p w : Int32) : Int32 := if ¬ inC p (nP (s 0)) ∨ ¬ btw w 0 4 then cBAD else if w = 4 then runsT (s 0) (cl p) else s 0 (55 + 4 * cl p + cl w)
def A_cork (s : Ka) (p v : Int32) : Int32 := if inC p (nP (s 0)) ∧ btw v 0 1 then s 0 (55 + 4 * cl p + 3) else cBAD
def S_cork (s : Ka) (p v : Int32) : Ka := if inC p (nP (s 0)) ∧ btw v 0 1 then up2 s 0 (55 + 4 * cl p + 3) v else s
def A_thirst (s : Ka) (v : Int32) : Int32 := if btw v 0 100 then s 0 4 else cBAD
def S_thirst (s : Ka) (v : Int32) : Ka := if btw v 0 100 then up2 s 0 4 v else s
/-- one cellar drawn -/
def dl1 (t : Row) : Row := rw1 (rw1 (comeT (rw1 t 0 (drawT (drawT (drawT (t 0))))) (rem (z8 (drawT (t 0))) 6) (rem (z8 (drawT (drawT (t 0)))) 60) (1 + rem (z8 (drawT (drawT (drawT (t 0))))) 60)) 0 (drawT (drawT (drawT (drawT (t 0)))))) (7 + 6 * nC t + 3 + nC t % 3) (rem (z8 (drawT (drawT (drawT (drawT (t 0)))))) 300)
def dlN (s : Ka) (n : Int32) : Nat := min (cl n) (8 - nC (s 0))
def A_deal (s : Ka) (n : Int32) : Int32 := if btw n 1 8 then nI (dlN s n) else cBAD
def S_deal (s : Ka) (n : Int32) : Ka := if btw n 1 8 then up1 s 0 (itn (fun _ t => dl1 t) (dlN s n) (s 0)) else s
def A_seed (s : Ka) (_ : Int32) : Int32 := s 0 0
def S_seed (s : Ka) (v : Int32) : Ka := up2 s 0 0 v
def hrN (s : Ka) (n : Int32) : Nat := cl (wi (9999 - s 0 3) 0 n)
def A_hours (s : Ka) (n : Int32) : Int32 := if btw n 1 100 then hoursT (hrN s n) (s 0) 5 - s 0 5 else cBAD
def S_hours (s : Ka) (n : Int32) : Ka := if btw n 1 100 then up1 s 0 (hoursT (hrN s n) (s 0)) else s
def A_town (s : Ka) (w : Int32) : Int32 := if w = 0 then allT (s 0) else if w = 1 then s 0 5 else if w = 2 then runningT (s 0) else if w = 3 then wineT (s 0) else cBAD
def A_behind (s : Ka) (n w : Int32) : Int32 := if ¬ btw n 0 100 ∨ w < 0 ∨ (1 < w ∧ ¬ inC (w - 2) (nC (s 0))) then cBAD else if w = 0 then allT (hoursT (cl n) (s 0)) else if w = 1 then hoursT (cl n) (s 0) 5 else fullT (hoursT (cl n) (s 0)) (cl (w - 2))
def A_taste (s : Ka) (c k n : Int32) : Int32 := if ¬ inC c (nC (s 0)) ∨ ¬ btw k 0 2 ∨ ¬ btw n 0 100 then cBAD else hoursT (cl n) (s 0) (7 + 6 * cl c + (3 + cl k))
def restT (t : Row) : Nat → Nat → Int32
  | 0, _ => cNONE
  | f + 1, n => if 0 < runningT (hoursT n t) then restT t f (n + 1) else nI n
def A_rests (s : Ka) : Int32 := restT (s 0) 301 0
/-- the best pipe to cork, of the first ones -/
def ckS (t : Row) (c n : Nat) (p : Nat) (q : Int32 × Int32) : Int32 × Int32 :=
  if t (55 + 4 * p + 3) = 0 then (if q.2 < fullT (hoursT n (rw1 t (55 + 4 * p + 3) 1)) c then (nI p, fullT (hoursT n (rw1 t (55 + 4 * p + 3) 1)) c) else q) else q
def ckT (t : Row) (c n : Nat) : Int32 × Int32 := itn (ckS t c n) (nP t) (-1, -1)
def A_corks (s : Ka) (c n w : Int32) : Int32 := if ¬ inC c (nC (s 0)) ∨ ¬ btw n 1 60 ∨ ¬ btw w 0 1 then cBAD else if (ckT (s 0) (cl c) (cl n)).1 < 0 then cNONE else if w = 0 then (ckT (s 0) (cl c) (cl n)).1 else (ckT (s 0) (cl c) (cl n)).2
/-- two joined by a pipe, for so many hours -/
def dgU (t : Row) (n a b : Nat) : Row := hoursT n (rw1 (layT t (nP t) (nI a) (nI b) 3) 2 (t 2 + 1))
def dgB (t : Row) (a b : Nat) : Bool := (List.range (nP t)).any fun p => (t (55 + 4 * p + 0) == nI a && t (55 + 4 * p + 1) == nI b) || (t (55 + 4 * p + 0) == nI b && t (55 + 4 * p + 1) == nI a)
def dgS (t : Row) (n a : Nat) (b : Nat) (q : Int32 × Int32) : Int32 × Int32 :=
  if a < b ∧ dgB t a b = false then (if q.1 < 0 ∨ dgU t n a b 5 < q.2 then (10 * nI a + nI b, dgU t n a b 5) else q) else q
def dgT (t : Row) (n : Nat) : Int32 × Int32 := itn (fun a q => itn (dgS t n a) (nC t) q) (nC t) (-1, 0)
def A_dig (s : Ka) (n w : Int32) : Int32 := if ¬ btw n 1 40 ∨ ¬ btw w 0 1 then cBAD else if (dgT (s 0) (cl n)).1 < 0 then cNONE else if w = 0 then (dgT (s 0) (cl n)).1 else (dgT (s 0) (cl n)).2
def loS (t u : Row) (c : Nat) (q : Int32 × Int32) : Int32 × Int32 := if q.1 < 0 ∨ q.2 < fullT t c - fullT u c then (nI c, fullT t c - fullT u c) else q
def loT (t u : Row) : Int32 × Int32 := itn (loS t u) (nC t) (-1, 0)
def A_loser (s : Ka) (n w : Int32) : Int32 := if ¬ btw n 1 60 ∨ ¬ btw w 0 1 then cBAD else if (loT (s 0) (hoursT (cl n) (s 0))).1 < 0 then cNONE else if w = 0 then (loT (s 0) (hoursT (cl n) (s 0))).1 else (loT (s 0) (hoursT (cl n) (s 0))).2
def emT (t : Row) (c : Nat) : Row := fun i => if 7 + 6 * c + 3 ≤ i ∧ i ≤ 7 + 6 * c + 5 then 0 else t i
def otT (t : Row) (c n : Nat) : Int32 := allT (hoursT n t) - fullT (hoursT n t) c
def A_tap (s : Ka) (c n : Int32) : Int32 := if ¬ inC c (nC (s 0)) ∨ ¬ btw n 1 60 then cBAD else otT (s 0) (cl c) (cl n) - otT (emT (s 0) (cl c)) (cl c) (cl n)
def dugS (s : Ka) (sh c : Nat) (p : Nat) (q : Int32 × Int64) : Int32 × Int64 :=
  if (offT (s 27) sh c (cl (s 26 sh)) (rw1 (s 0) (55 + 4 * p + 3) 1)).2 < q.2 then (nI p, (offT (s 27) sh c (cl (s 26 sh)) (rw1 (s 0) (55 + 4 * p + 3) 1)).2) else q
def dugT (s : Ka) (sh c : Nat) : Int32 × Int64 := itn (dugS s sh c) (nP (s 0)) (-1, (offT (s 27) sh c (cl (s 26 sh)) (s 0)).2)
def A_dug (s : Ka) (sh c w : Int32) : Int32 := if ¬ inC sh 4 ∨ ¬ inC c (nC (s 0)) ∨ ¬ btw w 0 1 then cBAD else if s 25 (cl sh) < 0 then cNOTHING else if w = 0 then none0 (dugT s (cl sh) (cl c)).1 else (dugT s (cl sh) (cl c)).2.toInt32
/-- two facts -/
def fac2 (a b : Int32) : Nat → Int32 := fun i => if i = 0 then a else b
def ruleT (t : Row) (key : Int32) (f : Nat → Int32) (d : Int32) : Int32 := match cntT t key (nX t) with
  | none => d
  | some x => worksT t x f
def A_fee (s : Ka) : Int32 := ruleT (s 0) 1 (fac2 (s 0 5) (s 0 3)) (s 0 5)
def A_fine (s : Ka) (c : Int32) : Int32 := if ¬ inC c (nC (s 0)) then cBAD else ruleT (s 0) 2 (fac2 (fullT (s 0) (cl c)) (levelT (s 0) (cl c))) (fullT (s 0) (cl c))
/-- the k-th of twelve bytes -/
def byT (a b c : Int32) (k : Nat) : Int32 := ((if k < 4 then a else if k < 8 then b else c) >>> (nI (24 - 8 * (k % 4)) &&& 31)) &&& 255
def A_feed (s : Ka) (_ _ _ : Int32) : Int32 := if 96 < s 99 8 + 12 then cFULL else s 99 8 + 12
def S_feed (s : Ka) (a b c : Int32) : Ka := if 96 < s 99 8 + 12 then s else up2 (up1 s 7 (fun i => if cl (s 99 8) ≤ i ∧ i < cl (s 99 8) + 12 then byT a b c (i - cl (s 99 8)) else s 7 i)) 99 8 (s 99 8 + 12)
def A_trim (s : Ka) (n : Int32) : Int32 := if btw n 0 (s 99 8) then n else cBAD
def S_trim (s : Ka) (n : Int32) : Ka := if btw n 0 (s 99 8) then up2 s 99 8 n else s
def A_textTold (s : Ka) (x w : Int32) : Int32 := if ¬ inC x (nX (s 0)) ∨ ¬ btw w 0 1 then cBAD else if w = 0 then s 0 (107 + 2 * cl x) / 1000 else s 0 (107 + 2 * cl x + 1)
def A_why (s : Ka) (key : Int32) : Int32 := if btw key 0 2 then none0 (opI (cntT (s 0) key (nX (s 0)))) else cBAD
abbrev badS (sh so n : Int32) : Prop := ¬ inC sh 4 ∨ ¬ btw so (-1) 1 ∨ (0 ≤ so ∧ 24 < n)
def A_sheet (_ : Ka) (sh so n : Int32) : Int32 := if badS sh so n then cBAD else if 0 ≤ so ∧ n < 0 then cSIZE else if so < 0 then 0 else n
def S_sheet (s : Ka) (sh so n : Int32) : Ka := if badS sh so n then s else if 0 ≤ so ∧ n < 0 then s else up1 (up2 (up2 s 25 (cl sh) so) 26 (cl sh) (if so < 0 then 0 else n)) 27 (fun i => if 24 * cl sh ≤ i ∧ i < 24 * cl sh + 24 then 0 else s 27 i)
def A_mark (s : Ka) (sh p v : Int32) : Int32 := if ¬ inC sh 4 then cBAD else if s 25 (cl sh) < 0 then cNOTHING else if ¬ btw p 0 (s 26 (cl sh) - 1) then cINDEX else if s 25 (cl sh) = 0 ∧ v = cNONE then cKIND else if s 25 (cl sh) = 1 ∧ v ≠ cNONE ∧ ¬ btw v (-99999) 99999 then cBAD else 1
def S_mark (s : Ka) (sh p v : Int32) : Ka := if A_mark s sh p v = 1 then up2 s 27 (24 * cl sh + cl p) (if s 25 (cl sh) = 0 then v.toInt16.toInt32 else v) else s
/-- one cellar's wine out of a sheet -/
def poV (t : Row) (c : Nat) (v : Int32) : Int32 := if v = cNONE then t (7 + 6 * c + 3) else wi v 0 999
def poS (cells : Row) (sh : Nat) (c : Nat) (q : Row × Int32) : Row × Int32 := (rw1 q.1 (7 + 6 * c + 3) (poV q.1 c (cells (24 * sh + c))), q.2 + (if q.1 (7 + 6 * c + 3) = poV q.1 c (cells (24 * sh + c)) then 0 else 1))
def poT (s : Ka) (sh : Nat) : Row × Int32 := itn (poS (s 27) sh) (min (cl (s 26 sh)) (nC (s 0))) (s 0, 0)
def A_pour (s : Ka) (sh : Int32) : Int32 := if ¬ inC sh 4 then cBAD else if s 25 (cl sh) < 0 then cNOTHING else (poT s (cl sh)).2
def S_pour (s : Ka) (sh : Int32) : Ka := if ¬ inC sh 4 then s else if s 25 (cl sh) < 0 then s else up1 s 0 (poT s (cl sh)).1
def rdT (s : Ka) (sh : Nat) : Nat → Nat → Int32
  | 0, _ => cNONE
  | f + 1, k => if s 27 (24 * sh + k) ≠ cNONE ∧ (¬ k < nC (s 0) ∨ s 27 (24 * sh + k) ≠ levelT (s 0) k) then nI k else rdT s sh f (k + 1)
def A_reads (s : Ka) (sh : Int32) : Int32 := if ¬ inC sh 4 then cBAD else if s 25 (cl sh) < 0 then cNOTHING else rdT s (cl sh) (cl (s 26 (cl sh))) 0
def A_copy (s : Ka) (f p t a m : Int32) : Int32 := if ¬ inC f 4 ∨ ¬ inC t 4 then cBAD else if s 25 (cl f) < 0 ∨ s 25 (cl t) < 0 then cNOTHING else if s 25 (cl f) ≠ s 25 (cl t) then cKIND else if p < 0 ∨ a < 0 ∨ m < 0 ∨ s 26 (cl f) - m < p ∨ s 26 (cl t) - m < a then cINDEX else m
abbrev cpOk (s : Ka) (f p t a m : Int32) : Prop := inC f 4 ∧ inC t 4 ∧ ¬ s 25 (cl f) < 0 ∧ ¬ s 25 (cl t) < 0 ∧ s 25 (cl f) = s 25 (cl t) ∧ ¬ (p < 0 ∨ a < 0 ∨ m < 0 ∨ s 26 (cl f) - m < p ∨ s 26 (cl t) - m < a)
def S_copy (s : Ka) (f p t a m : Int32) : Ka := if cpOk s f p t a m then up1 s 27 (fun i => if 24 * cl t + cl a ≤ i ∧ i < 24 * cl t + cl a + cl m then s 27 (24 * cl f + cl p + (i - (24 * cl t + cl a))) else s 27 i) else s
abbrev badL (s : Ka) (sl g k : Int32) : Prop := ¬ inC sl 5 ∨ ¬ btw g 0 3 ∨ (g = 1 ∧ ¬ inC k (nC (s 0))) ∨ (g = 2 ∧ ¬ inC k 4)
def A_lay (s : Ka) (sl g k : Int32) : Int32 := if badL s sl g k then cBAD else if g = 2 ∧ s 25 (cl k) < 0 then cNOTHING else s 28 (cl sl)
def S_lay (s : Ka) (sl g k : Int32) : Ka := if badL s sl g k then s else if g = 2 ∧ s 25 (cl k) < 0 then s else up1 (up2 (up2 (up2 s 28 (cl sl) g) 29 (cl sl) (if g = 1 then s 0 (7 + 6 * cl k + 0) else if g = 2 then s 26 (cl k) else k)) 30 (cl sl) (if g = 1 then worthT (s 0) (cl k) else 0)) 31 (fun i => if g = 2 ∧ 24 * cl sl ≤ i ∧ i < 24 * cl sl + 24 then s 27 (24 * cl k + (i - 24 * cl sl)) else s 31 i)
def A_ask (s : Ka) (sl kd : Int32) : Int32 := if ¬ inC sl 5 ∨ ¬ btw kd 0 5 then cBAD else if s 28 (cl sl) = 0 then cNOTHING else if s 28 (cl sl) = 1 ∧ underT (s 29 (cl sl)) kd then s 30 (cl sl) else cKIND
def A_item (s : Ka) (sl p : Int32) : Int32 := if ¬ inC sl 5 then cBAD else if s 28 (cl sl) = 0 then cNOTHING else if s 28 (cl sl) ≠ 2 then cKIND else if ¬ btw p 0 (s 29 (cl sl) - 1) then cINDEX else if s 31 (24 * cl sl + cl p) = cNONE then cKIND else s 31 (24 * cl sl + cl p)
def A_rest (s : Ka) (sl n : Int32) : Int32 := if ¬ inC sl 5 then cBAD else if s 28 (cl sl) = 0 then cNOTHING else if s 28 (cl sl) ≠ 3 then cKIND else if n = 0 then cNO else if n = -1 then 0 else rem (s 29 (cl sl)) n
def A_tell (s : Ka) (_ : Int32) : Int32 := if s 99 34 = 60 then cFULL else s 99 34 + 1
def S_tell (s : Ka) (v : Int32) : Ka := if s 99 34 = 60 then s else up2 (up2 s 33 (cl (s 99 34)) v) 99 34 (s 99 34 + 1)
/-- how many of the numbers that wait stand right, of so many hours -/
def chT (tells : Row) (many : Nat) (t : Row) : Nat → Nat → Nat
  | 0, k => 2 * k
  | f + 1, k => if ¬ (2 * k < many ∧ tells (2 * k) = allT (hoursT (k + 1) t)) then 2 * k else if ¬ (2 * k + 1 < many ∧ tells (2 * k + 1) = hoursT (k + 1) t 5) then 2 * k + 1 else chT tells many t f (k + 1)
def chN (s : Ka) (n : Int32) : Nat := cl (wi (9999 - s 1 3) 0 n)
def chR (s : Ka) (n : Int32) : Nat := chT (s 33) (cl (s 99 34)) (cpT (s 1) (s 0)) (chN s n) 0
def A_check (s : Ka) (n : Int32) : Int32 := if ¬ btw n 1 30 then cBAD else if s 99 3 = 0 then cNO else if chR s n = cl (s 99 34) ∧ chR s n = 2 * chN s n then 0 else nI (1 + chR s n)
def S_check (s : Ka) (_ : Int32) : Ka := up2 s 99 34 0
def A_keep (s : Ka) : Int32 := s 0 1
def S_keep (s : Ka) : Ka := up2 (up1 s 1 (cpT (s 0) (s 1))) 99 3 1
def A_back (s : Ka) : Int32 := if s 99 3 = 0 then cNO else s 1 1
def S_back (s : Ka) : Ka := if s 99 3 = 0 then s else up1 s 0 (cpT (s 1) (s 0))
def A_count (s : Ka) (w : Int32) : Int32 := if w = 0 then s 0 1 else if w = 1 then s 0 2 else if w = 2 then s 0 3 else if w = 3 then s 0 4 else if w = 4 then corkedT (s 0) else if w = 5 then s 0 6 else if w = 6 then s 99 34 else if w = 7 then s 99 8 else if w = 8 then s 0 0 else cBAD
