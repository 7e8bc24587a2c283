/-! THE PLAIN FUNCTIONS over a row of numbers (the model's row): both sides are tied to these -/
set_option maxRecDepth 100000
abbrev Row : Type := Nat → Int32
def nC (t : Row) : Nat := (t 1).toNatClampNeg
def nP (t : Row) : Nat := (t 2).toNatClampNeg
def nX (t : Row) : Nat := (t 6).toNatClampNeg
def pA (t : Row) (p : Nat) : Nat := (t (55 + 4 * p + 0)).toNatClampNeg
def pB (t : Row) (p : Nat) : Nat := (t (55 + 4 * p + 1)).toNatClampNeg
def fullT (t : Row) (c : Nat) : Int32 := t (7 + 6 * c + 3) + t (7 + 6 * c + 4) + t (7 + 6 * c + 5)
/-- the text of a key that was told last, of the first n -/
def cntT (t : Row) (key : Int32) : Nat → Option Nat
  | 0 => none
  | k + 1 => if t (107 + 2 * k) / 1000 = key then some k else cntT t key k
def opI (o : Option Nat) : Int32 := match o with
  | none => -1
  | some k => nI k
def twoT (sg a b : Int32) : Int32 :=
  if sg = -1 then (if a ≠ 0 ∨ b ≠ 0 then 1 else 0) else if sg = -2 then (if a ≠ 0 ∧ b ≠ 0 then 1 else 0) else if sg = -3 then (if a < b then 1 else 0) else if sg = -4 then (if a = b then 1 else 0) else if sg = -5 then (if b < a then 1 else 0) else if sg = -6 then a + b else if sg = -7 then a - b else if sg = -8 then a * b else if b = 0 then 0 else a / b
/-- a sign of a text's code is worked out over a stack of numbers -/
def stepC (f : Nat → Int32) (st : List Int32) (sg : Int32) : List Int32 :=
  if 0 ≤ sg then (if sg < 10000 then sg else f (sg - 10000).toNatClampNeg) :: st
  else if sg = -10 then (match st with
    | x :: r => (if x = 0 then 1 else 0) :: r
    | [] => [])
  else (match st with
    | b :: a :: r => twoT sg a b :: r
    | _ => [])
def evC (f : Nat → Int32) (code : List Int32) (st : List Int32) : List Int32 := code.foldl (stepC f) st
def lenT (t : Row) (x : Nat) : Nat := (t (107 + 2 * x) - t (107 + 2 * x) / 1000 * 1000).toNatClampNeg
def codeT (t : Row) (x : Nat) : List Int32 := (List.range (lenT t x)).map (fun k => t (135 + 96 * x + k))
def worksT (t : Row) (x : Nat) (f : Nat → Int32) : Int32 := (evC f (codeT t x) []).headD 0
/-- a code is right: so many numbers on the stack; names below m -/
def okC (m : Nat) : List Int32 → Nat → Prop
  | [], d => d = 1
  | sg :: r, d => (0 ≤ sg ∧ sg < nI (10000 + m) ∧ okC m r (d + 1)) ∨ (sg = -10 ∧ 1 ≤ d ∧ okC m r d) ∨ (-9 ≤ sg ∧ sg < 0 ∧ 2 ≤ d ∧ okC m r (d - 1))
def facH (t : Row) (c : Nat) : Nat → Int32 := fun i => if i = 0 then fullT t c else if i = 1 then t (7 + 6 * c + 2) else t (7 + 6 * c + 3)
def plainT (t : Row) (c : Nat) : Int32 := wi (match cntT t 0 (nX t) with
  | none => fullT t c / 10
  | some x => worksT t x (facH t c)) 0 999
def highT (t : Row) (c : Nat) : Int32 :=
  if t (7 + 6 * c + 0) = 1 then plainT t c / 2 else if t (7 + 6 * c + 0) = 3 then (if plainT t c < 4 then 0 else plainT t c / 2 - 2) else if t (7 + 6 * c + 0) = 2 ∨ t (7 + 6 * c + 0) = 4 then (if 0 < fullT t c then plainT t c + 1 else plainT t c) else if t (7 + 6 * c + 0) = 5 then 0 else plainT t c
def levelT (t : Row) (c : Nat) : Int32 := t (7 + 6 * c + 1) + highT t c
def losesT (t : Row) (c : Nat) : Int32 := if t (7 + 6 * c + 0) = 2 then fullT t c / 20 else if t (7 + 6 * c + 0) = 4 then (if fullT t c / 20 < 1 then 0 else fullT t c / 20 - 1) else 0
def takesT (t : Row) (c : Nat) (n : Int32) : Int32 := if t (7 + 6 * c + 0) = 3 then n / 2 else if t (7 + 6 * c + 0) = 5 then 0 else n
def worthT (t : Row) (c : Nat) : Int32 := if t (7 + 6 * c + 0) = 1 then t (7 + 6 * c + 2) + 6 else if t (7 + 6 * c + 0) = 2 then 99 - t (7 + 6 * c + 2) else if t (7 + 6 * c + 0) = 3 then 2 * (t (7 + 6 * c + 2) + 6) else if t (7 + 6 * c + 0) = 4 then 91 - t (7 + 6 * c + 2) else if t (7 + 6 * c + 0) = 5 then 3 else t (7 + 6 * c + 2)
abbrev underT (kd one : Int32) : Prop := one = 0 ∨ kd = one ∨ (one = 1 ∧ kd = 3) ∨ (one = 2 ∧ kd = 4)
def higherT (t : Row) (p : Nat) : Nat := if levelT t (pB t p) < levelT t (pA t p) then pA t p else pB t p
def lowerT (t : Row) (p : Nat) : Nat := if levelT t (pB t p) < levelT t (pA t p) then pB t p else pA t p
def runsT (t : Row) (p : Nat) : Int32 := if t (55 + 4 * p + 3) = 1 then 0 else takesT t (lowerT t p) (wi (t (55 + 4 * p + 2) * (levelT t (higherT t p) - levelT t (lowerT t p)) / 2) 0 (fullT t (higherT t p)))
def drawT (z : Int32) : Int32 := z * 1103515245 + 12345
def z8 (z : Int32) : Int32 := (z.toUInt32 >>> (Int32.toUInt32 8 &&& Int32.toUInt32 31)).toInt32
/-- a row with one number anew -/
def rw1 (t : Row) (i : Nat) (v : Int32) : Row := va_up t i v
/-- drops that go: of each sort, first shares -/
def sh0 (t : Row) (c : Nat) (n : Int32) (k : Nat) : Int32 := if fullT t c = 0 then 0 else ((t (7 + 6 * c + (3 + k))).toInt64 * n.toInt64 / (fullT t c).toInt64).toInt32
def minI (a b : Int32) : Int32 := if a < b then a else b
def lk0 (t : Row) (c : Nat) (n : Int32) : Int32 := n - sh0 t c n 0 - sh0 t c n 1 - sh0 t c n 2
def mo0 (t : Row) (c : Nat) (n : Int32) : Int32 := minI (lk0 t c n) (t (7 + 6 * c + (3 + 0)) - sh0 t c n 0)
def mo1 (t : Row) (c : Nat) (n : Int32) : Int32 := minI (lk0 t c n - mo0 t c n) (t (7 + 6 * c + (3 + 1)) - sh0 t c n 1)
def mo2 (t : Row) (c : Nat) (n : Int32) : Int32 := minI (lk0 t c n - mo0 t c n - mo1 t c n) (t (7 + 6 * c + (3 + 2)) - sh0 t c n 2)
def goT (t : Row) (c : Nat) (n : Int32) (k : Nat) : Int32 := if k = 0 then sh0 t c n 0 + mo0 t c n else if k = 1 then sh0 t c n 1 + mo1 t c n else sh0 t c n 2 + mo2 t c n
/-- so many drops go out of a cellar -/
def drT (t : Row) (c : Nat) (n : Int32) : Row := fun i => if i = 7 + 6 * c + 3 then t i - goT t c n 0 else if i = 7 + 6 * c + 4 then t i - goT t c n 1 else if i = 7 + 6 * c + 5 then t i - goT t c n 2 else t i
/-- drops come into a cellar -/
def inT (t : Row) (c : Nat) (g : Nat → Int32) : Row := fun i => if i = 7 + 6 * c + 3 then t i + g 0 else if i = 7 + 6 * c + 4 then t i + g 1 else if i = 7 + 6 * c + 5 then t i + g 2 else t i
def flT (t : Row) (p : Nat) : Row := if 0 < runsT t p then inT (drT t (higherT t p) (runsT t p)) (lowerT t p) (goT t (higherT t p) (runsT t p)) else t
def spT (t : Row) (c : Nat) (n : Int32) : Row := rw1 (drT t c n) 5 (t 5 + n)
/-- a step done for 0, 1 .. n - 1 -/
def itn {α : Type} (f : Nat → α → α) : Nat → α → α
  | 0, a => a
  | k + 1, a => f k (itn f k a)
def st1 (t : Row) : Row := itn (fun p t => flT t p) (nP t) t
def st2 (t : Row) : Row := itn (fun c t => spT t c (losesT t c)) (nC t) t
def st3f (c : Nat) (t : Row) : Row := if t (7 + 6 * c + 2) < highT t c then spT t c (wi (fullT t c / 4 + 1) 0 (fullT t c)) else t
def st3 (t : Row) : Row := itn st3f (nC t) t
def rem (a b : Int32) : Int32 := a - a / b * b
def st4 (t : Row) : Row :=
  if rem (z8 (drawT (t 0))) 100 < t 4 ∧ 0 < t 1 then
    drT (rw1 t 0 (drawT (drawT (t 0)))) (rem (z8 (drawT (drawT (t 0)))) (t 1)).toNatClampNeg (wi 5 0 (fullT t (rem (z8 (drawT (drawT (t 0)))) (t 1)).toNatClampNeg))
  else rw1 t 0 (drawT (t 0))
def st5 (t : Row) : Row := rw1 t 3 (t 3 + 1)
def hourT (t : Row) : Row := st5 (st4 (st3 (st2 (st1 t))))
def hoursT (n : Nat) (t : Row) : Row := itn (fun _ t => hourT t) n t
def allT (t : Row) : Int32 := itn (fun c a => a + fullT t c) (nC t) 0
def runningT (t : Row) : Int32 := itn (fun p a => a + (if 0 < runsT t p then 1 else 0)) (nP t) 0
def wineT (t : Row) : Int32 := itn (fun c a => a ||| (if 0 < fullT t c then (1 : Int32) <<< (nI c &&& 31) else 0)) (nC t) 0
def corkedT (t : Row) : Int32 := itn (fun p a => a + t (55 + 4 * p + 3)) (nP t) 0
/-- two are joined by one of the first n pipes -/
def joinT (t : Row) (a b : Nat) (n : Nat) : Prop := ∃ p, p < n ∧ ((t (55 + 4 * p + 0) = nI a ∧ t (55 + 4 * p + 1) = nI b) ∨ (t (55 + 4 * p + 0) = nI b ∧ t (55 + 4 * p + 1) = nI a))
/-- one more cellar, pipe -/
def comeT (t : Row) (kd fl lp : Int32) : Row := fun i =>
  if i = 1 then t 1 + 1 else if i = 7 + 6 * nC t + 0 then kd else if i = 7 + 6 * nC t + 1 then fl else if i = 7 + 6 * nC t + 2 then lp else if 7 + 6 * nC t + 3 ≤ i ∧ i ≤ 7 + 6 * nC t + 5 then 0 else t i
def layT (t : Row) (p : Nat) (a b w : Int32) : Row := fun i => if i = 55 + 4 * p + 0 then a else if i = 55 + 4 * p + 1 then b else if i = 55 + 4 * p + 2 then w else if i = 55 + 4 * p + 3 then 0 else t i
/-- a row that keeps its counts, its pipes' ends and its texts right -/
def Rok (t : Row) : Prop :=
  (t 1 = nI (nC t) ∧ nC t ≤ 8) ∧ (t 2 = nI (nP t) ∧ nP t ≤ 13) ∧ (t 6 = nI (nX t) ∧ nX t ≤ 14) ∧
  (∀ p, p < nP t → t (55 + 4 * p + 0) = nI (pA t p) ∧ pA t p < nC t ∧ t (55 + 4 * p + 1) = nI (pB t p) ∧ pB t p < nC t) ∧
  (∀ x, x < nX t → ∃ key : Nat, key < 3 ∧ lenT t x ≤ 96 ∧ t (107 + 2 * x) = nI (1000 * key + lenT t x) ∧ okC (if key = 0 then 3 else 2) (codeT t x) 0)
