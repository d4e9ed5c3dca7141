/-! WHAT BOTH SIDES COMPUTE -/
set_option maxRecDepth 100000
/-- a remark: kind, by, on, p, q, what it answers -/
abbrev Rm : Type := Nat × Nat × Nat × Nat × Nat × Option Nat
/-- revisions: how many, formers, texts; remarks: how many, what, settled; run, need, margin; the seed -/
abbrev aW : Type := (Nat × (Nat → Option Nat) × (Nat → Tx)) × (Nat × (Nat → Rm) × (Nat → Bool)) × (Nat × Nat × Nat) × Int32
def wN (w : aW) : Nat := w.1.1
def wFo (w : aW) : Nat → Option Nat := w.1.2.1
def wTx (w : aW) : Nat → Tx := w.1.2.2
def wM (w : aW) : Nat := w.2.1.1
def wRk (w : aW) : Nat → Rm := w.2.1.2.1
def wSt (w : aW) : Nat → Bool := w.2.1.2.2
def wRun (w : aW) : Nat := w.2.2.1.1
def wNeed (w : aW) : Nat := w.2.2.1.2.1
def wMar (w : aW) : Nat := w.2.2.1.2.2
def wSeed (w : aW) : Int32 := w.2.2.2
def rKind (r : Rm) : Nat := r.1
def rBy (r : Rm) : Nat := r.2.1
def rOn (r : Rm) : Nat := r.2.2.1
def rP (r : Rm) : Nat := r.2.2.2.1
def rQ (r : Rm) : Nat := r.2.2.2.2.1
def rAns (r : Rm) : Option Nat := r.2.2.2.2.2
def lnOK (c : Ln) : Prop := c.length ≤ 8 ∧ ∀ x ∈ c, 97 ≤ x ∧ x ≤ 122
def txOK (t : Tx) : Prop := t.length ≤ 24 ∧ ∀ c ∈ t, lnOK c
def rmOK (w : aW) (m : Nat) (r : Rm) : Prop := rKind r ≤ 6 ∧ rBy r ≤ 9 ∧ rOn r < wN w ∧ rP r ≤ rQ r ∧ rQ r < (wTx w (rOn r)).length ∧ ∀ a, rAns r = some a → a < m
def wOK (w : aW) : Prop := wN w ≤ 16 ∧ (∀ r, r < wN w → txOK (wTx w r)) ∧ (∀ r f, wFo w r = some f → f < r) ∧ wM w ≤ 16 ∧ (∀ m, m < wM w → rmOK w m (wRk w m)) ∧ 1 ≤ wRun w ∧ wRun w ≤ 9 ∧ wNeed w ≤ 99 ∧ wMar w ≤ 20
/-- how many steps t is behind r; f: fuel -/
def behF (fo : Nat → Option Nat) : Nat → Nat → Nat → Option Nat
  | 0, _, _ => none
  | f + 1, t, r => if t = r then some 0 else match fo t with
    | none => none
    | some u => (behF fo f u r).map (· + 1)
def beh (fo : Nat → Option Nat) (t r : Nat) : Option Nat := behF fo (t + 1) t r
/-- the k-th before t -/
def anc (fo : Nat → Option Nat) : Nat → Nat → Nat
  | 0, t => t
  | k + 1, t => (fo (anc fo k t)).getD 0
/-- where line i of b's former comes to in b -/
def cmR (w : aW) (b i : Nat) : Option Nat := match wFo w b with
  | none => none
  | some f => mPlace (wTx w f) (wTx w b) (wRun w) i
/-- the least, the greatest place of k lines from p on; how many have one -/
def fLow (c : Nat → Option Nat) (p : Nat) : Nat → Option Nat
  | 0 => none
  | k + 1 => match fLow c p k, c (p + k) with
    | o, none => o
    | none, some x => some x
    | some y, some x => some (min y x)
def fHigh (c : Nat → Option Nat) (p : Nat) : Nat → Option Nat
  | 0 => none
  | k + 1 => match fHigh c p k, c (p + k) with
    | o, none => o
    | none, some x => some x
    | some y, some x => some (max y x)
def fCnt (c : Nat → Option Nat) (p : Nat) : Nat → Nat
  | 0 => 0
  | k + 1 => fCnt c p k + (if (c (p + k)).isSome = true then 1 else 0)
def upC (c : Nat → Option Nat) : Nat → Option Nat
  | 0 => c 0
  | p + 1 => match c (p + 1) with
    | some x => some x
    | none => upC c p
def fSpan (c : Nat → Option Nat) (p k : Nat) : Option (Nat × Nat) := match fLow c p k, fHigh c p k with
  | some x, some y => some (x, y)
  | _, _ => none
/-- where a span goes by kind -/
def goesK (c : Nat → Option Nat) (nb kind a p q : Nat) : Option (Nat × Nat) :=
  if kind = 1 then (c p).map (fun x => (x, x))
  else if kind = 3 then (upC c p).map (fun x => (x, x))
  else if kind = 6 then (upC c p).map (fun x => (x, nb - 1))
  else match fSpan c p (q - p + 1) with
    | none => none
    | some (x, y) =>
      if kind = 4 then (if a * (q - p + 1) ≤ 10 * fCnt c p (q - p + 1) then some (x, y) else none)
      else if kind = 2 then (if fCnt c p (q - p + 1) = q - p + 1 ∧ y - x + 1 ≤ q - p + 1 then some (x, y) else none)
      else if kind = 5 then (if fCnt c p (q - p + 1) = q - p + 1 ∧ y - x + 1 ≤ q - p + 1 + a then some (x, y) else none)
      else some (x, y)
/-- the score of the place s in tb for what stood in tl from lp to lq -/
def scSum (tl tb : Tx) (lp s : Nat) : Nat → Nat
  | 0 => 0
  | k + 1 => scSum tl tb lp s k + (if tl.getD (lp + k) [] = tb.getD (s + k) [] then 3 else 0)
def scAh (tl tb : Tx) (lp s : Nat) : Nat := if (lp = 0 ↔ s = 0) ∧ (lp = 0 ∨ tl.getD (lp - 1) [] = tb.getD (s - 1) []) then 2 else 0
def scBe (tl tb : Tx) (lq e : Nat) : Nat := if (lq + 1 = tl.length ↔ e = tb.length) ∧ (lq + 1 = tl.length ∨ tl.getD (lq + 1) [] = tb.getD e []) then 2 else 0
def sc (tl tb : Tx) (lp lq s : Nat) : Nat := scSum tl tb lp s (lq - lp + 1) + scAh tl tb lp s + scBe tl tb lq (s + (lq - lp + 1))
def scN (tb : Tx) (lp lq : Nat) : Nat := tb.length - (lq - lp)
/-- the best of the first n places -/
def bsS (f : Nat → Nat) : Nat → Option Nat
  | 0 => none
  | s + 1 => match bsS f s with
    | none => some s
    | some b => if f b < f s then some s else some b
/-- whether all others are below by the margin -/
def bsC (f : Nat → Nat) (b mar : Nat) : Nat → Bool
  | 0 => true
  | s + 1 => bsC f b mar s && decide (s = b ∨ f s + mar ≤ f b)
def looks (w : aW) (l lp lq b : Nat) : Option Nat := match bsS (sc (wTx w l) (wTx w b) lp lq) (scN (wTx w b) lp lq) with
  | none => none
  | some s => if bsC (sc (wTx w l) (wTx w b) lp lq) s (wMar w) (scN (wTx w b) lp lq) = true then some s else none
/-- a walk: how (0 made, 1 follows, 2 back, 3 lost), p, q; where it was last: revision, p, q -/
abbrev Wk : Type := (Nat × Nat × Nat) × (Nat × Nat × Nat)
def kHow (k : Wk) : Nat := k.1.1
def kP (k : Wk) : Nat := k.1.2.1
def kQ (k : Wk) : Nat := k.1.2.2
def kL (k : Wk) : Nat := k.2.1
def kLP (k : Wk) : Nat := k.2.2.1
def kLQ (k : Wk) : Nat := k.2.2.2
def wkBack (w : aW) (k : Wk) (b : Nat) : Wk := match looks w (kL k) (kLP k) (kLQ k) b with
  | none => ((3, 0, 0), k.2)
  | some s => if wNeed w ≤ sc (wTx w (kL k)) (wTx w b) (kLP k) (kLQ k) s then ((2, s, s + (kLQ k - kLP k)), (b, s, s + (kLQ k - kLP k))) else ((3, 0, 0), k.2)
def wkStep (w : aW) (kind a b : Nat) (k : Wk) : Wk := if kHow k = 3 then wkBack w k b else match goesK (cmR w b) (wTx w b).length kind a (kP k) (kQ k) with
  | some (x, y) => ((1, x, y), (b, x, y))
  | none => wkBack w k b
def wk0 (r : Rm) : Wk := ((0, rP r, rQ r), (rOn r, rP r, rQ r))
/-- the walk of r as one of a kind, d steps of the n that t is behind it -/
def wkTo (w : aW) (r : Rm) (kind t n : Nat) : Nat → Wk
  | 0 => wk0 r
  | d + 1 => wkStep w kind (rBy r) (anc (wFo w) (n - (d + 1)) t) (wkTo w r kind t n d)
/-- .. all of them -/
def wkAll (w : aW) (r : Rm) (kind t : Nat) : Option Wk := (beh (wFo w) t (rOn r)).map (fun n => wkTo w r kind t n n)
/-! behind: plain facts -/
theorem behF_fuel {fo : Nat → Option Nat} (hf : ∀ r f, fo r = some f → f < r) : ∀ f g t r, t < f → t < g → behF fo f t r = behF fo g t r := by
  intro f
  induction f with
  | zero => intro g t r h; omega
  | succ f ih =>
    intro g t r h1 h2
    cases g with
    | zero => omega
    | succ g =>
      unfold behF
      by_cases h : t = r
      · rw [if_pos h, if_pos h]
      · rw [if_neg h, if_neg h]
        cases hu : fo t with
        | none => rfl
        | some u =>
          have := hf t u hu
          simp only [ih g u r (by omega) (by omega)]
theorem beh_self (fo : Nat → Option Nat) (t : Nat) : beh fo t t = some 0 := by
  unfold beh behF
  rw [if_pos rfl]
theorem beh_none {fo : Nat → Option Nat} {t r : Nat} (h : t ≠ r) (hu : fo t = none) : beh fo t r = none := by
  unfold beh behF
  rw [if_neg h, hu]
theorem beh_some {fo : Nat → Option Nat} (hf : ∀ r f, fo r = some f → f < r) {t r u : Nat} (h : t ≠ r) (hu : fo t = some u) : beh fo t r = (beh fo u r).map (· + 1) := by
  have := hf t u hu
  unfold beh
  rw [behF, if_neg h, hu]
  simp only [behF_fuel hf t (u + 1) u r (by omega) (by omega)]
