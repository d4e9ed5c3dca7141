/-! WHAT A STATE IS: the abstract state of both sides, and how the reference keeps it -/
set_option maxRecDepth 100000
/-- a shelf: a remark; a row: sort, length, elements; nothing -/
abbrev aSh : Type := Option (Nat ⊕ (Nat × Nat × (Nat → Int64)))
/-- the world, the imaged one; the shelves, the refusals; the latest fault; the trace -/
abbrev aS : Type := (aW × Option aW) × ((Nat → aSh) × (Nat → Int)) × Int × List Int
def aWd (a : aS) : aW := a.1.1
def aIm (a : aS) : Option aW := a.1.2
def aSv (a : aS) : Nat → aSh := a.2.1.1
def aRf (a : aS) : Nat → Int := a.2.1.2
def aFa (a : aS) : Int := a.2.2.1
def aTr (a : aS) : List Int := a.2.2.2
def aNo (a : aS) (j : Nat) : aS := (a.1, ((aSv a, va_up (aRf a) j (aRf a j + 1)), a.2.2))
def aSet (a : aS) (s : Nat) (x : aSh) : aS := (a.1, ((va_up (aSv a) s x, aRf a), a.2.2))
def aSetW (a : aS) (w : aW) : aS := ((w, a.1.2), a.2)
def aSetF (a : aS) (f : Int) : aS := (a.1, (a.2.1, (f, aTr a)))
def aSetT (a : aS) (t : List Int) : aS := (a.1, (a.2.1, (aFa a, t)))
def aNoR (a : aS) (j : Nat) : Int × aS := (-(j : Int), aNo a j)
def aNoT (a : aS) (j : Nat) : Int × aS := (-(j : Int) - 10, aNo a j)
def shOK (m : Nat) : aSh → Prop
  | none => True
  | some (.inl k) => k < m
  | some (.inr (so, n, _)) => so ≤ 3 ∧ n ≤ 160
def aOK (a : aS) : Prop := (wOK (aWd a) ∧ ∀ v, aIm a = some v → wOK v) ∧ (∀ s, shOK (wM (aWd a)) (aSv a s)) ∧ (-1 ≤ aFa a ∧ aFa a ≤ 160) ∧ (aTr a).length ≤ 20
/-- a line's letters in one number -/
def lnN : Ln → Nat
  | [] => 0
  | x :: t => x + 256 * lnN t
def lnZ (c : Ln) : Int64 := zL (lnN c : Nat)
theorem lnN_lt (c : Ln) (h : ∀ x ∈ c, x ≤ 122) : ∀ n, c.length ≤ n → 2 * lnN c < 256 ^ n := by
  induction c with
  | nil => intro n _; have := Nat.pow_pos (n := n) (by decide : 0 < 256); show 2 * 0 < 256 ^ n; omega
  | cons x t ih =>
    intro n hn
    obtain ⟨k, rfl⟩ : ∃ k, n = k + 1 := ⟨n - 1, by have : (x :: t).length = t.length + 1 := rfl; omega⟩
    have h1 := ih (fun y hy => h y (List.mem_cons_of_mem _ hy)) k (by have : (x :: t).length = t.length + 1 := rfl; omega)
    have h2 := h x List.mem_cons_self
    show 2 * (x + 256 * lnN t) < 256 ^ (k + 1)
    rw [Nat.pow_succ]
    omega
theorem lnN_inj : ∀ c d : Ln, (∀ x ∈ c, 97 ≤ x ∧ x ≤ 122) → (∀ x ∈ d, 97 ≤ x ∧ x ≤ 122) → lnN c = lnN d → c = d
  | [], [], _, _, _ => rfl
  | [], y :: t, _, h, e => by have := h y List.mem_cons_self; have e : 0 = y + 256 * lnN t := e; omega
  | y :: t, [], h, _, e => by have := h y List.mem_cons_self; have e : y + 256 * lnN t = 0 := e; omega
  | x :: t, y :: u, h, k, e => by
    have h1 := h x List.mem_cons_self
    have h2 := k y List.mem_cons_self
    have e : x + 256 * lnN t = y + 256 * lnN u := e
    have hxy : x = y := by omega
    rw [hxy, lnN_inj t u (fun z hz => h z (List.mem_cons_of_mem _ hz)) (fun z hz => k z (List.mem_cons_of_mem _ hz)) (by omega)]
theorem lnZ_R {c : Ln} (h : lnOK c) : lR (lnN c : Nat) := by
  have := lnN_lt c (fun x hx => (h.2 x hx).2) 8 h.1
  exact ⟨by omega, by omega⟩
theorem lnZ_inj {c d : Ln} (h : lnOK c) (k : lnOK d) : lnZ c = lnZ d ↔ c = d := by
  refine ⟨fun e => lnN_inj c d h.2 k.2 ?_, fun e => by rw [e]⟩
  have := zL_inj (lnZ_R h) (lnZ_R k) e
  omega
/-- the reference's arrays are a world: its revisions; where lines come to; its remarks -/
def mRv (S : mS) (w : aW) : Prop := (∀ r, r < wN w → S.2.1 1 r = oI (wFo w r) ∧ S.2.1 2 r = ((wTx w r).length : Nat) ∧ ∀ i, i < (wTx w r).length → S.2.2 3 (24 * r + i) = lnZ ((wTx w r).getD i [])) ∧ S.2.1 7 0 = (wRun w : Nat)
def mCm (S : mS) (w : aW) (k : Nat) : Prop := ∀ r, r < k → wFo w r ≠ none → ∀ i, i < 24 → S.2.1 4 (24 * r + i) = oI (cmR w r i)
def mRk (S : mS) (w : aW) : Prop := ∀ m, m < wM w → S.2.1 6 m = (rKind (wRk w m) : Nat) ∧ S.2.1 6 (16 + m) = (rBy (wRk w m) : Nat) ∧ S.2.1 6 (32 + m) = (rOn (wRk w m) : Nat) ∧ S.2.1 6 (48 + m) = (rP (wRk w m) : Nat) ∧ S.2.1 6 (64 + m) = (rQ (wRk w m) : Nat) ∧ S.2.1 6 (80 + m) = oI (rAns (wRk w m)) ∧ S.2.1 6 (96 + m) = bI (wSt w m)
def mOk (S : mS) (w : aW) (k : Nat) : Prop := (S.1 0 = (wN w : Nat) ∧ S.1 5 = (wM w : Nat) ∧ zI (S.1 8) = wSeed w) ∧ mRv S w ∧ mCm S w k ∧ mRk S w ∧ S.2.1 7 1 = (wNeed w : Nat) ∧ S.2.1 7 2 = (wMar w : Nat)
def mO (S : mS) (w : aW) : Prop := mOk S w (wN w)
def mI (S : mS) : Option aW → Prop
  | none => S.1 16 = 0
  | some w => S.1 16 = 1 ∧ (S.1 17 = (wN w : Nat) ∧ S.1 21 = (wM w : Nat) ∧ zI (S.1 24) = wSeed w) ∧
    (∀ r, r < wN w → S.2.1 18 r = oI (wFo w r) ∧ S.2.1 19 r = ((wTx w r).length : Nat) ∧ ∀ i, i < (wTx w r).length → S.2.2 20 (24 * r + i) = lnZ ((wTx w r).getD i [])) ∧
    (∀ m, m < wM w → S.2.1 22 m = (rKind (wRk w m) : Nat) ∧ S.2.1 22 (16 + m) = (rBy (wRk w m) : Nat) ∧ S.2.1 22 (32 + m) = (rOn (wRk w m) : Nat) ∧ S.2.1 22 (48 + m) = (rP (wRk w m) : Nat) ∧ S.2.1 22 (64 + m) = (rQ (wRk w m) : Nat) ∧ S.2.1 22 (80 + m) = oI (rAns (wRk w m)) ∧ S.2.1 22 (96 + m) = bI (wSt w m)) ∧
    S.2.1 23 0 = (wRun w : Nat) ∧ S.2.1 23 1 = (wNeed w : Nat) ∧ S.2.1 23 2 = (wMar w : Nat)
def mSh (S : mS) (s : Nat) : aSh → Prop
  | none => S.2.1 9 s = -1
  | some (.inl m) => S.2.1 9 s = (m : Nat)
  | some (.inr (so, n, f)) => S.2.1 9 s = 100 + (so : Nat) ∧ S.2.1 10 s = (n : Nat) ∧ ∀ i, i < n → S.2.2 11 (160 * s + i) = f i
def mT (S : mS) (t : List Int) : Prop := S.1 13 = (t.length : Nat) ∧ ∀ i, i < t.length → S.2.1 14 i = t.getD i 0
def mXk (S : mS) (a : aS) (k : Nat) : Prop := mOk S (aWd a) k ∧ mI S (aIm a) ∧ (∀ s, s < 8 → mSh S s (aSv a s)) ∧ (∀ j, j < 8 → S.2.1 15 j = aRf a j) ∧ S.1 12 = aFa a ∧ mT S (aTr a)
def mX (S : mS) (a : aS) : Prop := mXk S a (wN (aWd a))
theorem mO.cg {S T : mS} {w : aW} (h : mO S w) (e : (T.1 0 = S.1 0 ∧ T.1 5 = S.1 5 ∧ T.1 8 = S.1 8) ∧ (T.2.1 1 = S.2.1 1 ∧ T.2.1 2 = S.2.1 2 ∧ T.2.1 4 = S.2.1 4 ∧ T.2.1 6 = S.2.1 6 ∧ T.2.1 7 = S.2.1 7) ∧ T.2.2 3 = S.2.2 3) : mO T w := by
  obtain ⟨⟨e1, e2, e3⟩, ⟨e4, e5, e6, e7, e8⟩, e9⟩ := e
  unfold mO mOk mRv mCm mRk; rw [e1, e2, e3, e4, e5, e6, e7, e8, e9]; exact h
theorem mI.cg {S T : mS} {w : Option aW} (h : mI S w) (e : (T.1 16 = S.1 16 ∧ T.1 17 = S.1 17 ∧ T.1 21 = S.1 21 ∧ T.1 24 = S.1 24) ∧ (T.2.1 18 = S.2.1 18 ∧ T.2.1 19 = S.2.1 19 ∧ T.2.1 22 = S.2.1 22 ∧ T.2.1 23 = S.2.1 23) ∧ T.2.2 20 = S.2.2 20) : mI T w := by
  obtain ⟨⟨e1, e2, e3, e4⟩, ⟨e5, e6, e7, e8⟩, e9⟩ := e
  cases w with
  | none => show T.1 16 = 0; rw [e1]; exact h
  | some w => unfold mI; rw [e1, e2, e3, e4, e5, e6, e7, e8, e9]; exact h
theorem mSh.cg {S T : mS} {s : Nat} {x : aSh} (h : mSh S s x) (e : T.2.1 9 s = S.2.1 9 s ∧ T.2.1 10 s = S.2.1 10 s ∧ ∀ i, i < 160 → T.2.2 11 (160 * s + i) = S.2.2 11 (160 * s + i)) (ok : ∀ so n f, x = some (.inr (so, n, f)) → n ≤ 160) : mSh T s x := by
  rcases x with _ | m | ⟨so, n, f⟩
  · exact e.1.trans h
  · exact e.1.trans h
  · exact ⟨e.1.trans h.1, e.2.1.trans h.2.1, fun i hi => (e.2.2 i (Nat.lt_of_lt_of_le hi (ok so n f rfl))).trans (h.2.2 i hi)⟩
theorem mSh.cg' {S T : mS} {s : Nat} {x : aSh} (h : mSh S s x) (e : T.2.1 9 = S.2.1 9 ∧ T.2.1 10 = S.2.1 10 ∧ T.2.2 11 = S.2.2 11) : mSh T s x := by
  rcases x with _ | m | ⟨so, n, f⟩
  · exact (congrFun e.1 s).trans h
  · exact (congrFun e.1 s).trans h
  · exact ⟨(congrFun e.1 s).trans h.1, (congrFun e.2.1 s).trans h.2.1, fun i hi => (congrFun e.2.2 _).trans (h.2.2 i hi)⟩
theorem mT.cg {S T : mS} {t : List Int} (h : mT S t) (e : T.1 13 = S.1 13 ∧ T.2.1 14 = S.2.1 14) : mT T t := by unfold mT; rw [e.1, e.2]; exact h
theorem mX.o {S : mS} {a : aS} (h : mX S a) : mO S (aWd a) := h.1
theorem mX.real {S T : mS} {a : aS} (h : mX S a) (e : mReal S T) : mX T a :=
  ⟨(mX.o h).cg ⟨⟨(e 0 (by decide)).1, (e 5 (by decide)).1, (e 8 (by decide)).1⟩, ⟨(e 1 (by decide)).2.1, (e 2 (by decide)).2.1, (e 4 (by decide)).2.1, (e 6 (by decide)).2.1, (e 7 (by decide)).2.1⟩, (e 3 (by decide)).2.2⟩,
   h.2.1.cg ⟨⟨(e 16 (by decide)).1, (e 17 (by decide)).1, (e 21 (by decide)).1, (e 24 (by decide)).1⟩, ⟨(e 18 (by decide)).2.1, (e 19 (by decide)).2.1, (e 22 (by decide)).2.1, (e 23 (by decide)).2.1⟩, (e 20 (by decide)).2.2⟩,
   fun s hs => (h.2.2.1 s hs).cg' ⟨(e 9 (by decide)).2.1, (e 10 (by decide)).2.1, (e 11 (by decide)).2.2⟩,
   fun j hj => (congrFun (e 15 (by decide)).2.1 j).trans (h.2.2.2.1 j hj), (e 12 (by decide)).1.trans h.2.2.2.2.1, h.2.2.2.2.2.cg ⟨(e 13 (by decide)).1, (e 14 (by decide)).2.1⟩⟩
theorem mO.real {S T : mS} {w : aW} (h : mO S w) (e : mReal S T) : mO T w := h.cg ⟨⟨(e 0 (by decide)).1, (e 5 (by decide)).1, (e 8 (by decide)).1⟩, ⟨(e 1 (by decide)).2.1, (e 2 (by decide)).2.1, (e 4 (by decide)).2.1, (e 6 (by decide)).2.1, (e 7 (by decide)).2.1⟩, (e 3 (by decide)).2.2⟩
theorem mX.no {S : mS} {a : aS} (h : mX S a) (j : Nat) : mX (mNo S j) (aNo a j) :=
  ⟨(mX.o h).cg ⟨⟨rfl, rfl, rfl⟩, ⟨rfl, rfl, rfl, rfl, rfl⟩, rfl⟩, h.2.1.cg ⟨⟨rfl, rfl, rfl, rfl⟩, ⟨rfl, rfl, rfl, rfl⟩, rfl⟩, fun s hs => (h.2.2.1 s hs).cg' ⟨rfl, rfl, rfl⟩,
   fun i hi => by
     show _ = va_up (aRf a) j (aRf a j + 1) i
     by_cases hij : i = j
     · subst hij; unfold mNo; rw [sA_s, va_up_self, h.2.2.2.1 i hi]
     · unfold mNo; rw [sA_n hij, va_up_ne _ _ hij]; exact h.2.2.2.1 i hi,
   h.2.2.2.2.1, h.2.2.2.2.2.cg ⟨rfl, rfl⟩⟩
theorem mX.cast {S : mS} {a : aS} {r : Int × aS} {z : Int} (e : r = (z, a)) (h : mX S a) : zI z = zI r.1 ∧ mX S r.2 := by rw [e]; exact ⟨rfl, h⟩
theorem mX.noR {S : mS} {a : aS} {r : Int × aS} (j : Nat) (e : r = aNoR a j) (h : mX S a) : zI (-(j : Int)) = zI r.1 ∧ mX (mNo S j) r.2 := by rw [e]; exact ⟨rfl, h.no j⟩
theorem mX.noT {S : mS} {a : aS} {r : Int × aS} (j : Nat) (e : r = aNoT a j) (h : mX S a) : zI (-(j : Int) - 10) = zI r.1 ∧ mX (mNo S j) r.2 := by rw [e]; exact ⟨rfl, h.no j⟩
/-! reading -/
theorem aOK.w {a : aS} (h : aOK a) : wOK (aWd a) := h.1.1
theorem mX.hold {S : mS} {a : aS} (h : mX S a) (k : aOK a) (s : Nat) (hs : s < 8) : -1 ≤ S.2.1 9 s ∧ S.2.1 9 s ≤ 103 := by
  have h1 := h.2.2.1 s hs
  have h2 := k.2.1 s
  have h3 := k.1.1.2.2.2.1
  rcases hx : aSv a s with _ | m | ⟨so, n, f⟩
  · rw [hx] at h1; have h1 : S.2.1 9 s = -1 := h1; omega
  · rw [hx] at h1 h2; have h1 : S.2.1 9 s = (m : Nat) := h1; have h2 : m < wM (aWd a) := h2; omega
  · rw [hx] at h1 h2; have h1 := h1.1; have h2 := h2.1; omega
theorem mO.n {S : mS} {w : aW} (h : mO S w) : S.1 0 = (wN w : Nat) := h.1.1
theorem mO.m {S : mS} {w : aW} (h : mO S w) : S.1 5 = (wM w : Nat) := h.1.2.1
theorem mO.seed {S : mS} {w : aW} (h : mO S w) : zI (S.1 8) = wSeed w := h.1.2.2
theorem mO.rv {S : mS} {w : aW} (h : mO S w) : mRv S w := h.2.1
theorem mRv.fo {S : mS} {w : aW} (h : mRv S w) {r : Nat} (hr : r < wN w) : S.2.1 1 r = oI (wFo w r) := (h.1 r hr).1
theorem mRv.len {S : mS} {w : aW} (h : mRv S w) {r : Nat} (hr : r < wN w) : S.2.1 2 r = ((wTx w r).length : Nat) := (h.1 r hr).2.1
theorem mRv.ln {S : mS} {w : aW} (h : mRv S w) {r i : Nat} (hr : r < wN w) (hi : i < (wTx w r).length) : S.2.2 3 (24 * r + i) = lnZ ((wTx w r).getD i []) := (h.1 r hr).2.2 i hi
theorem mRv.cg {S T : mS} {w : aW} (h : mRv S w) (e : T.2.1 1 = S.2.1 1 ∧ T.2.1 2 = S.2.1 2 ∧ T.2.1 7 = S.2.1 7 ∧ T.2.2 3 = S.2.2 3) : mRv T w := by
  unfold mRv; rw [e.1, e.2.1, e.2.2.1, e.2.2.2]; exact h
theorem mO.fo {S : mS} {w : aW} (h : mO S w) {r : Nat} (hr : r < wN w) : S.2.1 1 r = oI (wFo w r) := h.rv.fo hr
theorem mO.len {S : mS} {w : aW} (h : mO S w) {r : Nat} (hr : r < wN w) : S.2.1 2 r = ((wTx w r).length : Nat) := h.rv.len hr
theorem mO.ln {S : mS} {w : aW} (h : mO S w) {r i : Nat} (hr : r < wN w) (hi : i < (wTx w r).length) : S.2.2 3 (24 * r + i) = lnZ ((wTx w r).getD i []) := h.rv.ln hr hi
theorem mO.cm {S : mS} {w : aW} (h : mO S w) {r i : Nat} (hr : r < wN w) (hf : wFo w r ≠ none) (hi : i < 24) : S.2.1 4 (24 * r + i) = oI (cmR w r i) := h.2.2.1 r hr hf i hi
theorem mO.kd {S : mS} {w : aW} (h : mO S w) {m : Nat} (hm : m < wM w) : S.2.1 6 m = (rKind (wRk w m) : Nat) := (h.2.2.2.1 m hm).1
theorem mO.by {S : mS} {w : aW} (h : mO S w) {m : Nat} (hm : m < wM w) : S.2.1 6 (16 + m) = (rBy (wRk w m) : Nat) := (h.2.2.2.1 m hm).2.1
theorem mO.on {S : mS} {w : aW} (h : mO S w) {m : Nat} (hm : m < wM w) : S.2.1 6 (32 + m) = (rOn (wRk w m) : Nat) := (h.2.2.2.1 m hm).2.2.1
theorem mO.p {S : mS} {w : aW} (h : mO S w) {m : Nat} (hm : m < wM w) : S.2.1 6 (48 + m) = (rP (wRk w m) : Nat) := (h.2.2.2.1 m hm).2.2.2.1
theorem mO.q {S : mS} {w : aW} (h : mO S w) {m : Nat} (hm : m < wM w) : S.2.1 6 (64 + m) = (rQ (wRk w m) : Nat) := (h.2.2.2.1 m hm).2.2.2.2.1
theorem mO.ans {S : mS} {w : aW} (h : mO S w) {m : Nat} (hm : m < wM w) : S.2.1 6 (80 + m) = oI (rAns (wRk w m)) := (h.2.2.2.1 m hm).2.2.2.2.2.1
theorem mO.st {S : mS} {w : aW} (h : mO S w) {m : Nat} (hm : m < wM w) : S.2.1 6 (96 + m) = bI (wSt w m) := (h.2.2.2.1 m hm).2.2.2.2.2.2
theorem mO.run {S : mS} {w : aW} (h : mO S w) : S.2.1 7 0 = (wRun w : Nat) := h.2.1.2
theorem mO.need {S : mS} {w : aW} (h : mO S w) : S.2.1 7 1 = (wNeed w : Nat) := h.2.2.2.2.1
theorem mO.mar {S : mS} {w : aW} (h : mO S w) : S.2.1 7 2 = (wMar w : Nat) := h.2.2.2.2.2
theorem wOK.n {w : aW} (h : wOK w) : wN w ≤ 16 := h.1
theorem wOK.tx {w : aW} (h : wOK w) {r : Nat} (hr : r < wN w) : txOK (wTx w r) := h.2.1 r hr
theorem wOK.fo {w : aW} (h : wOK w) : ∀ r f, wFo w r = some f → f < r := h.2.2.1
theorem wOK.m {w : aW} (h : wOK w) : wM w ≤ 16 := h.2.2.2.1
theorem wOK.rm {w : aW} (h : wOK w) {m : Nat} (hm : m < wM w) : rmOK w m (wRk w m) := h.2.2.2.2.1 m hm
theorem wOK.ru {w : aW} (h : wOK w) : 1 ≤ wRun w ∧ wRun w ≤ 9 ∧ wNeed w ≤ 99 ∧ wMar w ≤ 20 := h.2.2.2.2.2
theorem wOK.ln {w : aW} (h : wOK w) {r i : Nat} (hr : r < wN w) (hi : i < (wTx w r).length) : lnOK ((wTx w r).getD i []) := by
  have := (h.tx hr).2
  rw [List.getD_eq_getElem?_getD, List.getElem?_eq_getElem hi]
  exact this _ (List.getElem_mem hi)
theorem mRv.al {S : mS} {w : aW} (h : mRv S w) (k : wOK w) {r t i j : Nat} (hr : r < wN w) (ht : t < wN w) (hi : i < (wTx w r).length) (hj : j < (wTx w t).length) : alk (wTx w r) (wTx w t) i j = true ↔ S.2.2 3 (24 * r + i) = S.2.2 3 (24 * t + j) := by
  rw [h.ln hr hi, h.ln ht hj, lnZ_inj (k.ln hr hi) (k.ln ht hj)]
  exact decide_eq_true_iff
theorem zL_add (a b : Int) : zL a + zL b = zL (a + b) := (Int64.ofInt_add a b).symm
theorem wOK.rk {w : aW} (h : wOK w) {m : Nat} (hm : m < wM w) : rKind (wRk w m) ≤ 6 ∧ rBy (wRk w m) ≤ 9 ∧ rOn (wRk w m) < wN w ∧ rP (wRk w m) ≤ rQ (wRk w m) ∧ rQ (wRk w m) < (wTx w (rOn (wRk w m))).length ∧ (wTx w (rOn (wRk w m))).length ≤ 24 ∧ wN w ≤ 16 ∧ wM w ≤ 16 := by
  have k := h.rm hm
  exact ⟨k.1, k.2.1, k.2.2.1, k.2.2.2.1, k.2.2.2.2.1, (h.tx k.2.2.1).1, h.n, h.m⟩
theorem wOK.ra {w : aW} (h : wOK w) {m x : Nat} (hm : m < wM w) (e : rAns (wRk w m) = some x) : x < m := (h.rm hm).2.2.2.2.2 x e
theorem oI_lt {o : Option Nat} {n : Nat} (h : ∀ x, o = some x → x < n) : -1 ≤ oI o ∧ oI o < (n : Nat) := by
  cases o with
  | none => exact ⟨by decide, by show (-1 : Int) < _; omega⟩
  | some x => have := h x rfl; rw [oI_some]; omega
theorem oI_n {o : Option Nat} {n : Nat} : oI o = (n : Nat) ↔ o = some n := by
  cases o with
  | none => exact ⟨fun h => by have h : (-1 : Int) = n := h; omega, fun h => by cases h⟩
  | some x => rw [oI_some]; exact ⟨fun h => by rw [show x = n by omega], fun h => by cases h; rfl⟩
section G3
variable {p : Program} {l : Launch} {e : Env} {R : Room} {s : State} {m : MethodId} {args : Array Value} {below : List Frame} {meth : Method} {c : Code} {H : Heap} {locs : List Loc} {cells slots : Nat} {Q : State → Prop}
variable {cc : ByteArray} {pc : Nat} {ls : Array Slot} {rest : List Value}
theorem g_ladd (hx : p.tables.exec = Jvm.exec) (hb : c.code = cc) {x y : Int} (d : decode cc pc = .ok (.ladd, 1)) (k : W p l e R s m args below meth c H locs cells slots Q (F0 m (pc + 1) ls (.long (zL (x + y)) :: rest))) : W p l e R s m args below meth c H locs cells slots Q (F0 m pc ls (.long (zL y) :: .long (zL x) :: rest)) := lv_ladd hx hb d (by rw [zL_add]; exact k)
theorem g_lcmpz (hx : p.tables.exec = Jvm.exec) (hb : c.code = cc) {x y : Int} (d : decode cc pc = .ok (.lcmp, 1)) (hr : (-9223372036854775808 ≤ x ∧ x < 9223372036854775808) ∧ -9223372036854775808 ≤ y ∧ y < 9223372036854775808)
    (kk : ∀ z : Int, ((z = -1 ∧ x < y) ∨ (z = 0 ∧ x = y) ∨ (z = 1 ∧ y < x)) → W p l e R s m args below meth c H locs cells slots Q (F0 m (pc + 1) ls (.int (zI z) :: rest))) : W p l e R s m args below meth c H locs cells slots Q (F0 m pc ls (.long (zL y) :: .long (zL x) :: rest)) :=
  g_lcmp hx hb d (fun z hz => kk z (by rw [zL_lt hr, zL_eq hr, zL_lt hr.symm] at hz; exact hz))
end G3
