set_option maxRecDepth 100000
theorem beh_step {fo : Nat → Option Nat} (hf : ∀ r f, fo r = some f → f < r) {c r : Nat} (h : c ≠ r) : beh fo c r = (fo c).bind (fun u => (beh fo u r).map (· + 1)) := by
  cases hu : fo c with
  | none => exact beh_none h hu
  | some u => exact beh_some hf h hu
theorem anc_S {fo : Nat → Option Nat} {t u : Nat} (h : fo t = some u) : ∀ k, anc fo (k + 1) t = anc fo k u := by
  intro k
  induction k with
  | zero => show (fo t).getD 0 = u; rw [h]; rfl
  | succ k ih => show (fo (anc fo (k + 1) t)).getD 0 = (fo (anc fo k u)).getD 0; rw [ih]
theorem beh_anc {fo : Nat → Option Nat} (hf : ∀ r f, fo r = some f → f < r) : ∀ n t r, beh fo t r = some n → (∀ k, k ≤ n → anc fo k t + k ≤ t) ∧ (∀ k, k < n → fo (anc fo k t) = some (anc fo (k + 1) t)) ∧ anc fo n t = r := by
  intro n
  induction n with
  | zero =>
    intro t r h
    by_cases htr : t = r
    · exact ⟨fun k hk => by rw [show k = 0 by omega]; exact Nat.le_refl t, fun k hk => by omega, htr⟩
    · rw [beh_step hf htr] at h
      cases hu : fo t with
      | none => rw [hu] at h; cases h
      | some u =>
        rw [hu] at h
        have h : (beh fo u r).map (· + 1) = some 0 := h
        cases hb : beh fo u r with
        | none => rw [hb] at h; cases h
        | some x => rw [hb] at h; have h : some (x + 1) = some 0 := h; cases h
  | succ n ih =>
    intro t r h
    by_cases htr : t = r
    · subst htr; rw [beh_self] at h; cases h
    · rw [beh_step hf htr] at h
      cases hu : fo t with
      | none => rw [hu] at h; cases h
      | some u =>
        rw [hu] at h
        have h : (beh fo u r).map (· + 1) = some (n + 1) := h
        cases hb : beh fo u r with
        | none => rw [hb] at h; cases h
        | some x =>
          rw [hb] at h
          have h : some (x + 1) = some (n + 1) := h
          have hx : x = n := by have := Option.some.inj h; omega
          subst hx
          obtain ⟨q1, q2, q3⟩ := ih u r hb
          have hut := hf t u hu
          refine ⟨fun k hk => ?_, fun k hk => ?_, (anc_S hu x).trans q3⟩
          · cases k with
            | zero => exact Nat.le_refl t
            | succ k => rw [anc_S hu]; have := q1 k (by omega); omega
          · cases k with
            | zero => show fo t = some ((fo t).getD 0); rw [hu]; rfl
            | succ k => rw [anc_S hu, anc_S hu]; exact q2 k (by omega)
/-- a line on its way along the chain -/
def thr (w : aW) (y i n : Nat) : Nat → Option Nat
  | 0 => some i
  | d + 1 => (thr w y i n d).bind (cmR w (anc (wFo w) (n - (d + 1)) y))
theorem thr_none {w : aW} {y i n d : Nat} (h : thr w y i n d = none) : ∀ k, thr w y i n (d + k) = none := by
  intro k
  induction k with
  | zero => exact h
  | succ k ih => show (thr w y i n (d + k)).bind _ = none; rw [ih]; rfl
theorem cmR_lt {w : aW} (k : wOK w) {b i x : Nat} (h : cmR w b i = some x) (hb : b < wN w) : x < 24 ∧ i < 24 := by
  unfold cmR at h
  cases hf : wFo w b with
  | none => rw [hf] at h; cases h
  | some f =>
    rw [hf] at h
    have := mPlace_lt h
    have := (k.tx (r := b) hb).1
    have := k.fo b f hf
    have := (k.tx (r := f) (by omega)).1
    omega
theorem thr_lt {w : aW} (k : wOK w) {y i n : Nat} (hi : i < 24) (hy : ∀ k, k < n → anc (wFo w) k y < wN w) : ∀ d x, d ≤ n → thr w y i n d = some x → x < 24 := by
  intro d x hd h
  cases d with
  | zero => have h : some i = some x := h; cases h; exact hi
  | succ d =>
    have h : (thr w y i n d).bind (cmR w (anc (wFo w) (n - (d + 1)) y)) = some x := h
    cases ht : thr w y i n d with
    | none => rw [ht] at h; cases h
    | some z => rw [ht] at h; exact (cmR_lt k h (hy _ (by omega))).1
def opThrough (a : aS) (x y i : Int) : Int × aS := if ¬ ((0 ≤ x ∧ x < wN (aWd a)) ∧ 0 ≤ y ∧ y < wN (aWd a)) then aNoT a 1 else if ¬ (0 ≤ i ∧ i < aLn a x) then aNoT a 5 else match beh (wFo (aWd a)) y.toNat x.toNat with
  | none => aNoT a 6
  | some n => (oI (thr (aWd a) y.toNat i.toNat n n), a)
/-- the first of k from j on -/
def fsB (p : Nat → Bool) : Nat → Nat → Option Nat
  | 0, _ => none
  | k + 1, j => if p j = true then some j else fsB p k (j + 1)
theorem fsB_p {p : Nat → Bool} : ∀ k j x, fsB p k j = some x → j ≤ x ∧ x < j + k ∧ p x = true := by
  intro k
  induction k with
  | zero => intro j x h; cases h
  | succ k ih =>
    intro j x h
    unfold fsB at h
    by_cases hp : p j = true
    · rw [if_pos hp] at h; cases h; exact ⟨Nat.le_refl _, by omega, hp⟩
    · rw [if_neg hp] at h; have := ih _ _ h; exact ⟨by omega, by omega, this.2.2⟩
/-- which line of the former comes to line i of t -/
def cmF (w : aW) (t i : Nat) : Option Nat := match wFo w t with
  | none => none
  | some f => fsB (fun j => decide (cmR w t j = some i)) (wTx w f).length 0
theorem cmF_lt {w : aW} {t i j : Nat} (h : cmF w t i = some j) : ∃ f, wFo w t = some f ∧ j < (wTx w f).length := by
  unfold cmF at h
  cases hf : wFo w t with
  | none => rw [hf] at h; cases h
  | some f => rw [hf] at h; have := fsB_p _ _ _ h; exact ⟨f, rfl, by omega⟩
/-- where a line first was: revision and line -/
def orgF (w : aW) : Nat → Nat → Nat → Nat × Nat
  | 0, r, i => (r, i)
  | f + 1, r, i => match cmF w r i with
    | none => (r, i)
    | some j => orgF w f ((wFo w r).getD 0) j
def opOrigin (a : aS) (x i what : Int) : Int × aS := if ¬ (0 ≤ x ∧ x < wN (aWd a)) then aNoR a 1 else if ¬ ((0 ≤ i ∧ i < aLn a x) ∧ 0 ≤ what ∧ what ≤ 1) then aNoR a 5 else if what = 0 then (((orgF (aWd a) (x.toNat + 1) x.toNat i.toNat).1 : Nat), a) else (((orgF (aWd a) (x.toNat + 1) x.toNat i.toNat).2 : Nat), a)
def dpF (w : aW) : Nat → Nat → Nat
  | 0, _ => 0
  | f + 1, m => match rAns (wRk w m) with
    | none => 0
    | some u => dpF w f u + 1
def inF (w : aW) (m : Nat) : Nat → Nat → Bool
  | 0, _ => false
  | f + 1, x => match rAns (wRk w x) with
    | none => false
    | some u => decide (u = m) || inF w m f u
/-- x is in the thread of m -/
def aIn (w : aW) (m x : Nat) : Bool := inF w m (x + 1) x
def cnB (p : Nat → Bool) : Nat → Nat
  | 0 => 0
  | n + 1 => cnB p n + (if p n = true then 1 else 0)
theorem cnB_le (p : Nat → Bool) : ∀ n, cnB p n ≤ n := by
  intro n
  induction n with
  | zero => exact Nat.le_refl _
  | succ n ih => unfold cnB; split <;> omega
def anB (p : Nat → Bool) : Nat → Bool
  | 0 => false
  | n + 1 => anB p n || p n
theorem anB_no {p : Nat → Bool} : ∀ {n}, anB p n = false ↔ ∀ k, k < n → p k = false := by
  intro n
  induction n with
  | zero => exact ⟨fun _ k hk => by omega, fun _ => rfl⟩
  | succ n ih =>
    show (anB p n || p n) = false ↔ _
    rw [Bool.or_eq_false_iff, ih]
    exact ⟨fun h k hk => by by_cases hkn : k = n; (subst hkn; exact h.2); exact h.1 k (by omega), fun h => ⟨fun k hk => h k (by omega), h n (by omega)⟩⟩
theorem anB_yes {p : Nat → Bool} {n k : Nat} (hk : k < n) (h : p k = true) : anB p n = true := by
  cases hb : anB p n with
  | true => rfl
  | false => have := anB_no.mp hb k hk; rw [h] at this; cases this
def aOp (w : aW) (m x : Nat) : Bool := (decide (x = m) || aIn w m x) && !wSt w x
def aOpen (w : aW) (m : Nat) : Bool := anB (aOp w m) (wM w)
def wMake (w : aW) (r : Rm) : aW := (w.1, (wM w + 1, va_up (wRk w) (wM w) r, va_up (wSt w) (wM w) false), w.2.2)
def iO (z : Int) : Option Nat := if z < 0 then none else some z.toNat
theorem oI_iO {z : Int} (h : -1 ≤ z) : oI (iO z) = z := by
  unfold iO
  by_cases hz : z < 0
  · rw [if_pos hz]; show (-1 : Int) = z; omega
  · rw [if_neg hz, oI_some]; omega
def opRemark (a : aS) (kind k x i j ans : Int) : Int × aS := if ¬ ((0 ≤ kind ∧ kind ≤ 6) ∧ (0 ≤ x ∧ x < wN (aWd a)) ∧ (ans = -1 ∨ (0 ≤ ans ∧ ans < wM (aWd a)))) then aNoR a 1 else if ¬ ((0 ≤ i ∧ i < aLn a x) ∧ (0 ≤ j ∧ j < aLn a x) ∧ i ≤ j) then aNoR a 5 else if ¬ (0 ≤ k ∧ k ≤ 9) then aNoR a 6 else if wM (aWd a) = 16 then aNoR a 7 else ((wM (aWd a) : Nat), aSetW a (wMake (aWd a) (kind.toNat, k.toNat, x.toNat, i.toNat, j.toNat, iO ans)))
def aOf (w : aW) (m : Nat) (what : Int) : Int := if what = 0 then (rKind (wRk w m) : Nat) else if what = 1 then (rBy (wRk w m) : Nat) else if what = 2 then (rOn (wRk w m) : Nat) else if what = 3 then (rP (wRk w m) : Nat) else if what = 4 then (rQ (wRk w m) : Nat) else if what = 5 then oI (rAns (wRk w m)) else bI (wSt w m)
def opRemarkOf (a : aS) (x what : Int) : Int × aS := if ¬ (0 ≤ x ∧ x < wM (aWd a)) then aNoR a 5 else if 0 ≤ what ∧ what ≤ 6 then (aOf (aWd a) x.toNat what, a) else if what = 7 then ((dpF (aWd a) (x.toNat + 1) x.toNat : Nat), a) else if what = 8 then ((cnB (aIn (aWd a) x.toNat) (wM (aWd a)) : Nat), a) else if what = 9 then (bI (aOpen (aWd a) x.toNat), a) else aNoR a 5
def wSettle (w : aW) (m : Nat) (b : Bool) : aW := (w.1, (wM w, wRk w, va_up (wSt w) m b), w.2.2)
def opSettle (a : aS) (x z : Int) : Int × aS := if ¬ (0 ≤ x ∧ x < wM (aWd a)) then aNoR a 1 else (bI (wSt (aWd a) x.toNat), aSetW a (wSettle (aWd a) x.toNat (decide (z ≠ 0))))
theorem mAr.o {S T : mS} {w : aW} {k : Nat} (h : mO S w) (e : mAr S T k) (hk : 25 ≤ k) : mO T w := h.real (e.real hk)
theorem mX.tk {S T : mS} {a : aS} {w' : aW} (h : mX S a) (hO : mO T w') (e : ∀ k, k < 25 → (k ≠ 5 → T.1 k = S.1 k) ∧ (k ≠ 6 → T.2.1 k = S.2.1 k) ∧ T.2.2 k = S.2.2 k) : mX T (aSetW a w') :=
  ⟨hO, h.2.1.cg ⟨⟨(e 16 (by decide)).1 (by decide), (e 17 (by decide)).1 (by decide), (e 21 (by decide)).1 (by decide), (e 24 (by decide)).1 (by decide)⟩, ⟨(e 18 (by decide)).2.1 (by decide), (e 19 (by decide)).2.1 (by decide), (e 22 (by decide)).2.1 (by decide), (e 23 (by decide)).2.1 (by decide)⟩, (e 20 (by decide)).2.2⟩,
   fun s hs => (h.2.2.1 s hs).cg' ⟨(e 9 (by decide)).2.1 (by decide), (e 10 (by decide)).2.1 (by decide), (e 11 (by decide)).2.2⟩,
   fun j hj => (congrFun ((e 15 (by decide)).2.1 (by decide)) j).trans (h.2.2.2.1 j hj), ((e 12 (by decide)).1 (by decide)).trans h.2.2.2.2.1, h.2.2.2.2.2.cg ⟨(e 13 (by decide)).1 (by decide), (e 14 (by decide)).2.1 (by decide)⟩⟩
/-- another 6 and 5: only the remarks are others -/
theorem mO.tk {S T : mS} {w w' : aW} (h : mO S w) (e : ∀ k, k < 25 → (k ≠ 5 → T.1 k = S.1 k) ∧ (k ≠ 6 → T.2.1 k = S.2.1 k) ∧ T.2.2 k = S.2.2 k) (hw : w'.1 = w.1) (hr : w'.2.2 = w.2.2) (hm : T.1 5 = (wM w' : Nat)) (hk : mRk T w') : mO T w' := by
  obtain ⟨⟨h1, h2, h3⟩, h4, h5, h6, h7, h8⟩ := h
  have hR : wRun w' = wRun w := by unfold wRun; rw [hr]
  have hN : wN w' = wN w := by unfold wN; rw [hw]
  have hF : wFo w' = wFo w := by unfold wFo; rw [hw]
  have hT : wTx w' = wTx w := by unfold wTx; rw [hw]
  have e7 := (e 7 (by decide)).2.1 (by decide)
  refine ⟨⟨?_, hm, ?_⟩, ?_, ?_, hk, ?_, ?_⟩
  · rw [hN]; exact ((e 0 (by decide)).1 (by decide)).trans h1
  · unfold wSeed; rw [hr]; exact (congrArg zI ((e 8 (by decide)).1 (by decide))).trans h3
  · unfold mRv; rw [hN, hF, hT, hR, (e 1 (by decide)).2.1 (by decide), (e 2 (by decide)).2.1 (by decide), e7, (e 3 (by decide)).2.2]; exact h4
  · intro r hr2 hf i hi
    rw [hN] at hr2; rw [hF] at hf
    have q := h5 r hr2 hf i hi
    rw [(e 4 (by decide)).2.1 (by decide), q]
    unfold cmR; rw [hF, hT, hR]
  · rw [e7]; unfold wNeed; rw [hr]; exact h7
  · rw [e7]; unfold wMar; rw [hr]; exact h8
theorem mRk.make {S T : mS} {w : aW} {r : Rm} (h : mRk S w) (hM : wM w < 16) (e : ∀ x, T.2.1 6 x = if x = 96 + wM w then 0 else if x = 80 + wM w then oI (rAns r) else if x = 64 + wM w then (rQ r : Nat) else if x = 48 + wM w then (rP r : Nat) else if x = 32 + wM w then (rOn r : Nat) else if x = 16 + wM w then (rBy r : Nat) else if x = wM w then (rKind r : Nat) else S.2.1 6 x) : mRk T (wMake w r) := by
  intro m hm
  have hm : m < wM w + 1 := hm
  show T.2.1 6 m = ((rKind (va_up (wRk w) (wM w) r m) : Nat) : Int) ∧ T.2.1 6 (16 + m) = ((rBy (va_up (wRk w) (wM w) r m) : Nat) : Int) ∧ T.2.1 6 (32 + m) = ((rOn (va_up (wRk w) (wM w) r m) : Nat) : Int) ∧ T.2.1 6 (48 + m) = ((rP (va_up (wRk w) (wM w) r m) : Nat) : Int) ∧ T.2.1 6 (64 + m) = ((rQ (va_up (wRk w) (wM w) r m) : Nat) : Int) ∧ T.2.1 6 (80 + m) = oI (rAns (va_up (wRk w) (wM w) r m)) ∧ T.2.1 6 (96 + m) = bI (va_up (wSt w) (wM w) false m)
  simp only [e]
  by_cases h2 : m = wM w
  · subst h2
    rw [va_up_self, va_up_self]
    refine ⟨?_, ?_, ?_, ?_, ?_, ?_, ?_⟩ <;> (repeat (first | rw [if_pos (by omega)] | rw [if_neg (by omega)])) <;> rfl
  · rw [va_up_ne _ _ h2, va_up_ne _ _ h2]
    have q := h m (by omega)
    refine ⟨?_, ?_, ?_, ?_, ?_, ?_, ?_⟩ <;> (repeat (first | rw [if_pos (by omega)] | rw [if_neg (by omega)]))
    · exact q.1
    · exact q.2.1
    · exact q.2.2.1
    · exact q.2.2.2.1
    · exact q.2.2.2.2.1
    · exact q.2.2.2.2.2.1
    · exact q.2.2.2.2.2.2
theorem sA_e {S : mS} {k j i : Nat} {v : Int} : (sA S k j v).2.1 k i = if i = j then v else S.2.1 k i := by simp [sA, mUpA]
theorem dpF_fuel {w : aW} (k : wOK w) : ∀ f g m, m < wM w → m < f → m < g → dpF w f m = dpF w g m := by
  intro f
  induction f with
  | zero => intro g m _ h; omega
  | succ f ih =>
    intro g m hm h1 h2
    obtain ⟨g, rfl⟩ : ∃ n, g = n + 1 := ⟨g - 1, by omega⟩
    unfold dpF
    cases hq : rAns (wRk w m) with
    | none => rfl
    | some u => have := k.ra hm hq; show dpF w f u + 1 = dpF w g u + 1; rw [ih g u (by omega) (by omega) (by omega)]
theorem inF_fuel {w : aW} (k : wOK w) {x : Nat} : ∀ f g m, m < wM w → m < f → m < g → inF w x f m = inF w x g m := by
  intro f
  induction f with
  | zero => intro g m _ h; omega
  | succ f ih =>
    intro g m hm h1 h2
    obtain ⟨g, rfl⟩ : ∃ n, g = n + 1 := ⟨g - 1, by omega⟩
    unfold inF
    cases hq : rAns (wRk w m) with
    | none => rfl
    | some u => have := k.ra hm hq; show (decide (u = x) || inF w x f u) = (decide (u = x) || inF w x g u); rw [ih g u (by omega) (by omega) (by omega)]
def dpO (w : aW) : Option Nat → Nat
  | none => 0
  | some u => dpF w (u + 1) u + 1
theorem dpF_O {w : aW} (k : wOK w) {m : Nat} (hm : m < wM w) : dpF w (m + 1) m = dpO w (rAns (wRk w m)) := by
  unfold dpF
  cases hq : rAns (wRk w m) with
  | none => rfl
  | some u => show dpF w m u + 1 = dpF w (u + 1) u + 1; have := k.ra hm hq; rw [dpF_fuel k m (u + 1) u (by omega) this (by omega)]
def inO (w : aW) (x : Nat) : Option Nat → Bool
  | none => false
  | some u => decide (u = x) || inF w x (u + 1) u
theorem inF_O {w : aW} (k : wOK w) {m x : Nat} (hm : m < wM w) : inF w x (m + 1) m = inO w x (rAns (wRk w m)) := by
  unfold inF
  cases hq : rAns (wRk w m) with
  | none => rfl
  | some u => show (decide (u = x) || inF w x m u) = (decide (u = x) || inF w x (u + 1) u); have := k.ra hm hq; rw [inF_fuel k m (u + 1) u (by omega) this (by omega)]
set_option maxHeartbeats 4000000 in
theorem metX4_behind {l : Launch} {X : gX} {mo : Nat} {ad : Nat → Nat} {S : mS} {w : aW} {t r : Nat} (hO : mO S w) (hK : wOK w) (ht : t < wN w) (hr9 : r < 1000) : Met l yX4_behind (ws_ yX4_behind cX4_behind 5 (some FieldType.int)) ({ frames := 0, cells := 0, slots := 0, locals := 0 }) (mP X mo ad S [.ref mo, .int (zI (t : Int)), .int (zI (r : Int))]) (mQi X mo ad (fun u T => u = zI (oI (beh (wFo w) t r)) ∧ mAr S T 30 ∧ ∀ n, beh (wFo w) t r = some n → ∀ k, k ≤ n → T.2.1 30 k = (anc (wFo w) k t : Nat))) 0 0 (mA mo ad) := by
  refine Met.m (by decide) (Nat.le_of_ble_eq_true rfl) ?_
  intro p e s m below meth c ls hx hb hr hts hown hlocks hml hG hl
  have hl : lv_has ls 5 [(0, .ref mo), (1, .int (zI (t : Int))), (2, .int (zI (r : Int)))] := hl
  have hNN := hK.n
  have hMM := hK.m
  refine lv_iconst (v := zI 0) hx hb dX4_behind_0 (by decide +kernel) ?_
  refine lv_istore_n (lv' := [(3, .int (zI 0)), (0, .ref mo), (1, .int (zI (t : Int))), (2, .int (zI (r : Int)))]) hx hb dX4_behind_1 rfl hl (by decide) rfl (fun ls hl => ?_)
  refine lv_iload_n hx hb dX4_behind_2 rfl (lv_at hl 2 rfl) ?_
  refine lv_istore (lv' := [(4, .int (zI (t : Int))), (3, .int (zI 0)), (0, .ref mo), (1, .int (zI (t : Int))), (2, .int (zI (r : Int)))]) hx hb dX4_behind_3 hl (by decide) rfl (fun ls hl => ?_)
  refine g_loop (fun mz H locs ls => ∃ (n : Nat) (o : Option Nat) (T : mS), ((o = none → beh (wFo w) t r = none) ∧ (∀ c0, o = some c0 → anc (wFo w) n t = c0 ∧ c0 + n ≤ t ∧ beh (wFo w) t r = (beh (wFo w) c0 r).map (· + n)) ∧ mAr S T 30 ∧ (∀ k, k < n → T.2.1 30 k = (anc (wFo w) k t : Nat)) ∧ mz = (oI o + 1).toNat) ∧ mW X mo ad T s H locs ∧ lv_has ls 5 [(0, .ref mo), (1, .int (zI (t : Int))), (2, .int (zI (r : Int))), (3, .int (zI (n : Int))), (4, .int (zI (oI o)))]) ((oI (some t) + 1).toNat) ⟨0, (some t), S, ⟨(fun q => by cases q), fun c0 q => (by cases q; exact ⟨rfl, by omega, by rw [show (fun x : Nat => x + 0) = id from rfl, Option.map_id]; rfl⟩), mAr.rf, fun k hk => (by omega), rfl⟩, hG, (lv_sub hl [2, 3, 4, 1, 0] rfl)⟩ (fun mz ihA H locs ls hI => ?_)
  obtain ⟨n, o, T, ⟨hno, hso, har, hch, hmz⟩, hG, hl⟩ := hI
  refine lv_iload hx hb dX4_behind_5 (lv_at hl 4 rfl) ?_
  refine lv_iconst (v := zI (-1)) hx hb dX4_behind_7 (by decide +kernel) ?_
  refine g_ceq (tgt := 42) hx hb dX4_behind_8 (by decide) (by have := oI_R o (fun x hx => by have := (hso x hx).2.1; omega); omega) (fun h1 => ?_) (fun h1 => ?_)
  · refine lv_iconst (v := zI (-1)) hx hb dX4_behind_42 (by decide +kernel) ?_
    exact m_iret hx hb hr hlocks hG (⟨by rw [hno (oI_m1.mp h1)]; rfl, har, fun n hn => by rw [hno (oI_m1.mp h1)] at hn; cases hn⟩) ⟨Nat.le_of_ble_eq_true rfl, Nat.le_of_ble_eq_true rfl⟩ dX4_behind_43
  · obtain ⟨c0, rfl⟩ : ∃ c0, o = some c0 := by cases o with
      | none => exact absurd rfl h1
      | some x => exact ⟨x, rfl⟩
    obtain ⟨han, hct, hbe⟩ := hso c0 rfl
    rw [oI_some] at hl hmz h1
    have hl : lv_has ls 5 [(0, .ref mo), (1, .int (zI (t : Int))), (2, .int (zI (r : Int))), (3, .int (zI (n : Int))), (4, .int (zI (c0 : Int)))] := by exact hl
    refine lv_aload_n hx hb dX4_behind_11 rfl (lv_at hl 0 rfl) ?_
    refine m_get 30 (by decide) (v := .ref (ad 30)) rfl hx hb hts hown hG (hts _ q3326) dX4_behind_12 ?_
    refine lv_iload_n hx hb dX4_behind_15 rfl (lv_at hl 3 rfl) ?_
    refine lv_iload hx hb dX4_behind_16 (lv_at hl 4 rfl) ?_
    refine m_iast 30 rfl rfl (by decide) n ⟨by omega, by show _ < 16; omega⟩ hx hb hG dX4_behind_18 (fun H locs (hG : mW X mo ad (sA T 30 n (c0 : Int)) s H locs) => ?_)
    have hO2 : mO (sA T 30 n (c0 : Int)) w := (har.A n (c0 : Int)).o hO (by decide)
    refine lv_iload hx hb dX4_behind_19 (lv_at hl 4 rfl) ?_
    refine lv_iload_n hx hb dX4_behind_21 rfl (lv_at hl 2 rfl) ?_
    refine g_cne (tgt := 27) hx hb dX4_behind_22 (by decide) (by omega) (fun h2 => ?_) (fun h2 => ?_)
    · refine lv_iinc (v := zI ((n : Int) + 1 : Int)) (lv' := [(3, .int (zI ((n : Int) + 1 : Int))), (0, .ref mo), (1, .int (zI (t : Int))), (2, .int (zI (r : Int))), (4, .int (zI (c0 : Int)))]) hx hb dX4_behind_27 hl (k := 3) rfl ((zI_add _ _).trans (congrArg zI (by omega))) (by decide) rfl (fun ls hl => ?_)
      refine lv_aload_n hx hb dX4_behind_30 rfl (lv_at hl 1 rfl) ?_
      refine m_get 1 (by decide) (v := .ref (ad 1)) rfl hx hb hts hown hG (hts _ q3297) dX4_behind_31 ?_
      refine lv_iload hx hb dX4_behind_34 (lv_at hl 4 rfl) ?_
      refine m_iald 1 rfl rfl (by decide) c0 (v := (oI (wFo w c0))) ⟨by omega, by show _ < 16; omega⟩ (hO2.fo (r := c0) (by omega)) hx hb hG dX4_behind_36 ?_
      refine lv_istore (lv' := [(4, .int (zI (oI (wFo w c0)))), (3, .int (zI ((n : Int) + 1 : Int))), (0, .ref mo), (1, .int (zI (t : Int))), (2, .int (zI (r : Int)))]) hx hb dX4_behind_37 hl (by decide) rfl (fun ls hl => ?_)
      refine lv_goto (tgt := 5) hx hb dX4_behind_39 (by decide) ?_
      exact ihA ((oI (wFo w c0) + 1).toNat) (by have := oI_lt (hK.fo c0); omega) H locs ls ⟨(n + 1), (wFo w c0), (sA T 30 n (c0 : Int)), ⟨fun q => by rw [hbe, beh_step hK.fo (by omega), q]; rfl, fun u q => ⟨by show (wFo w (anc (wFo w) n t)).getD 0 = u; rw [han, q]; rfl, by have := hK.fo c0 u q; omega, by rw [hbe, beh_step hK.fo (by omega), q]; show ((beh (wFo w) u r).map (· + 1)).map (· + n) = _; rw [Option.map_map]; exact congrArg (fun f => Option.map f _) (funext fun x => by show x + 1 + n = x + (n + 1); omega)⟩, har.A _ _, fun k hk => by by_cases hkn : k = n; (subst hkn; rw [sA_s, han]); rw [sA_n hkn]; exact hch k (by omega), rfl⟩, hG, (lv_sub hl [2, 3, 4, 1, 0] rfl)⟩
    · refine lv_iload_n hx hb dX4_behind_25 rfl (lv_at hl 3 rfl) ?_
      exact m_iret hx hb hr hlocks hG (⟨by rw [hbe, show c0 = r by omega, beh_self]; show zI (n : Int) = zI ((0 + n : Nat) : Int); rw [Nat.zero_add], har.A _ _, fun k hk j hj => by
        have hkn : k = n := by
          rw [hbe, show c0 = r by omega, beh_self] at hk; have hk : some (0 + n) = some k := hk; have := Option.some.inj hk; omega
        subst hkn
        by_cases hjk : j = k
        · subst hjk; rw [sA_s, han]
        · rw [sA_n hjk]; exact hch j (by omega)⟩) ⟨Nat.le_of_ble_eq_true rfl, Nat.le_of_ble_eq_true rfl⟩ dX4_behind_26

set_option maxHeartbeats 4000000 in
theorem metX4_comesFrom {l : Launch} {X : gX} {mo : Nat} {ad : Nat → Nat} {S : mS} {w : aW} {t i : Nat} (hO : mO S w) (hK : wOK w) (ht : t < wN w) (hi : i < 1000) : Met l yX4_comesFrom (ws_ yX4_comesFrom cX4_comesFrom 4 (some FieldType.int)) ({ frames := 0, cells := 0, slots := 0, locals := 0 }) (mP X mo ad S [.ref mo, .int (zI (t : Int)), .int (zI (i : Int))]) (mQi X mo ad (fun u T => u = zI (oI (cmF w t i)) ∧ S = T)) 0 0 (mA mo ad) := by
  refine Met.m (by decide) (Nat.le_of_ble_eq_true rfl) ?_
  intro p e s m below meth c ls hx hb hr hts hown hlocks hml hG hl
  have hl : lv_has ls 4 [(0, .ref mo), (1, .int (zI (t : Int))), (2, .int (zI (i : Int)))] := hl
  have hNN := hK.n
  have hMM := hK.m
  refine lv_aload_n hx hb dX4_comesFrom_0 rfl (lv_at hl 0 rfl) ?_
  refine m_get 1 (by decide) (v := .ref (ad 1)) rfl hx hb hts hown hG (hts _ q3297) dX4_comesFrom_1 ?_
  refine lv_iload_n hx hb dX4_comesFrom_4 rfl (lv_at hl 1 rfl) ?_
  refine m_iald 1 rfl rfl (by decide) t (v := (oI (wFo w t))) ⟨by omega, by show _ < 16; omega⟩ (hO.fo (r := t) (by omega)) hx hb hG dX4_comesFrom_5 ?_
  have hf1_0 := oI_lt (hK.fo t)
  refine lv_iconst (v := zI (-1)) hx hb dX4_comesFrom_6 (by decide +kernel) ?_
  refine g_cne (tgt := 12) hx hb dX4_comesFrom_7 (by decide) (by omega) (fun h2 => ?_) (fun h2 => ?_)
  · obtain ⟨f, hf⟩ : ∃ f, wFo w t = some f := by cases hq : wFo w t with
      | none => exact absurd (oI_m1.mpr hq) (by omega)
      | some f => exact ⟨f, rfl⟩
    have hft := hK.fo t f hf
    have hlf := (hK.tx (r := f) (by omega)).1
    refine lv_iconst (v := zI 0) hx hb dX4_comesFrom_12 (by decide +kernel) ?_
    refine lv_istore_n (lv' := [(3, .int (zI 0)), (0, .ref mo), (1, .int (zI (t : Int))), (2, .int (zI (i : Int)))]) hx hb dX4_comesFrom_13 rfl hl (by decide) rfl (fun ls hl => ?_)
    refine g_loop (fun mz H locs ls => ∃ (j : Nat), (j ≤ (wTx w f).length ∧ mz = (wTx w f).length - j ∧ fsB (fun j => decide (cmR w t j = some i)) (wTx w f).length 0 = fsB (fun j => decide (cmR w t j = some i)) ((wTx w f).length - j) j) ∧ mW X mo ad S s H locs ∧ lv_has ls 4 [(0, .ref mo), (1, .int (zI (t : Int))), (2, .int (zI (i : Int))), (3, .int (zI (j : Int)))]) ((wTx w f).length - 0) ⟨0, ⟨Nat.zero_le _, rfl, rfl⟩, hG, (lv_sub hl [1, 2, 3, 0] rfl)⟩ (fun mz ihA H locs ls hI => ?_)
    obtain ⟨j, ⟨hj, hmz, hfs⟩, hG, hl⟩ := hI
    refine lv_iload_n hx hb dX4_comesFrom_14 rfl (lv_at hl 3 rfl) ?_
    refine lv_aload_n hx hb dX4_comesFrom_15 rfl (lv_at hl 0 rfl) ?_
    refine m_get 2 (by decide) (v := .ref (ad 2)) rfl hx hb hts hown hG (hts _ q3298) dX4_comesFrom_16 ?_
    refine lv_aload_n hx hb dX4_comesFrom_19 rfl (lv_at hl 0 rfl) ?_
    refine m_get 1 (by decide) (v := .ref (ad 1)) rfl hx hb hts hown hG (hts _ q3297) dX4_comesFrom_20 ?_
    refine lv_iload_n hx hb dX4_comesFrom_23 rfl (lv_at hl 1 rfl) ?_
    refine m_iald 1 rfl rfl (by decide) t (v := (f : Int)) ⟨by omega, by show _ < 16; omega⟩ ((hO.fo ht).trans (by rw [hf]; rfl)) hx hb hG dX4_comesFrom_24 ?_
    refine m_iald 2 rfl rfl (by decide) f (v := ((wTx w f).length : Int)) ⟨by omega, by show _ < 17; omega⟩ (hO.len (by omega)) hx hb hG dX4_comesFrom_25 ?_
    refine g_cge (tgt := 52) hx hb dX4_comesFrom_26 (by decide) (by omega) (fun h1 => ?_) (fun h1 => ?_)
    · refine lv_iconst (v := zI (-1)) hx hb dX4_comesFrom_52 (by decide +kernel) ?_
      exact m_iret hx hb hr hlocks hG (⟨congrArg zI (congrArg oI (show none = cmF w t i by unfold cmF; rw [hf]; show _ = fsB _ _ 0; rw [hfs, show (wTx w f).length - j = 0 by omega]; rfl)), rfl⟩) ⟨Nat.le_of_ble_eq_true rfl, Nat.le_of_ble_eq_true rfl⟩ dX4_comesFrom_53
    · refine lv_aload_n hx hb dX4_comesFrom_29 rfl (lv_at hl 0 rfl) ?_
      refine m_get 4 (by decide) (v := .ref (ad 4)) rfl hx hb hts hown hG (hts _ q3300) dX4_comesFrom_30 ?_
      refine lv_bipush (v := zI 24) hx hb dX4_comesFrom_33 (by decide +kernel) ?_
      refine lv_iload_n hx hb dX4_comesFrom_35 rfl (lv_at hl 1 rfl) ?_
      refine g_imul hx hb dX4_comesFrom_36 ?_
      refine lv_iload_n hx hb dX4_comesFrom_37 rfl (lv_at hl 3 rfl) ?_
      refine g_iadd hx hb dX4_comesFrom_38 ?_
      refine m_iald 4 rfl rfl (by decide) (24 * t + j) (v := (oI (cmR w t j))) ⟨by omega, by show _ < 384; omega⟩ (hO.cm ht (by rw [hf]; exact nofun) (by omega)) hx hb hG dX4_comesFrom_39 ?_
      obtain ⟨g, hg⟩ : ∃ g, (wTx w f).length - j = g + 1 := ⟨(wTx w f).length - j - 1, by omega⟩
      refine lv_iload_n hx hb dX4_comesFrom_40 rfl (lv_at hl 2 rfl) ?_
      refine g_cne (tgt := 46) hx hb dX4_comesFrom_41 (by decide) (by have q := oI_R (cmR w t j) (fun x hx => by have := cmR_lt hK hx ht; omega); omega) (fun h2 => ?_) (fun h2 => ?_)
      · refine lv_iinc (v := zI ((j : Int) + 1 : Int)) (lv' := [(3, .int (zI ((j : Int) + 1 : Int))), (0, .ref mo), (1, .int (zI (t : Int))), (2, .int (zI (i : Int)))]) hx hb dX4_comesFrom_46 hl (k := 3) rfl ((zI_add _ _).trans (congrArg zI (by omega))) (by decide) rfl (fun ls hl => ?_)
        refine lv_goto (tgt := 14) hx hb dX4_comesFrom_49 (by decide) ?_
        exact ihA ((wTx w f).length - (j + 1)) (by omega) H locs ls ⟨(j + 1), ⟨by omega, rfl, by rw [hfs, hg, show (wTx w f).length - (j + 1) = g by omega]; show (if decide (cmR w t j = some i) = true then _ else _) = _; rw [if_neg (by rw [decide_eq_true_iff]; exact fun q => h2 (by rw [q]; rfl))]⟩, hG, (lv_sub hl [1, 2, 3, 0] rfl)⟩
      · refine lv_iload_n hx hb dX4_comesFrom_44 rfl (lv_at hl 3 rfl) ?_
        exact m_iret hx hb hr hlocks hG (⟨congrArg zI (congrArg oI (show some j = cmF w t i by unfold cmF; rw [hf]; show _ = fsB _ _ 0; rw [hfs, hg]; show _ = (if decide (cmR w t j = some i) = true then _ else _); rw [if_pos (by rw [decide_eq_true_iff]; exact oI_n.mp h2)])), rfl⟩) ⟨Nat.le_of_ble_eq_true rfl, Nat.le_of_ble_eq_true rfl⟩ dX4_comesFrom_45
  · refine lv_iconst (v := zI (-1)) hx hb dX4_comesFrom_10 (by decide +kernel) ?_
    exact m_iret hx hb hr hlocks hG (by first | (exfalso; omega) | exact ⟨congrArg zI (congrArg oI (show none = cmF w t i by unfold cmF; rw [oI_m1.mp (show oI (wFo w t) = -1 by omega)])), rfl⟩) ⟨Nat.le_of_ble_eq_true rfl, Nat.le_of_ble_eq_true rfl⟩ dX4_comesFrom_11

set_option maxHeartbeats 4000000 in
theorem metX4_depth {l : Launch} {X : gX} {mo : Nat} {ad : Nat → Nat} {S : mS} {w : aW} {x : Nat} (hO : mO S w) (hK : wOK w) (hx9 : x < wM w) : Met l yX4_depth (ws_ yX4_depth cX4_depth 4 (some FieldType.int)) ({ frames := 1, cells := 0, slots := 0, locals := 22 }) (mP X mo ad S [.ref mo, .int (zI (x : Int))]) (mQi X mo ad (fun u T => u = zI (dpF w (x + 1) x : Nat) ∧ S = T)) 0 0 (mA mo ad) := by
  refine Met.m (by decide) (Nat.le_of_ble_eq_true rfl) ?_
  intro p e s m below meth c ls hx hb hr hts hown hlocks hml hG hl
  have hl : lv_has ls 4 [(0, .ref mo), (1, .int (zI (x : Int)))] := hl
  have hNN := hK.n
  have hMM := hK.m
  refine lv_iconst (v := zI 0) hx hb dX4_depth_0 (by decide +kernel) ?_
  refine lv_istore_n (lv' := [(2, .int (zI 0)), (0, .ref mo), (1, .int (zI (x : Int)))]) hx hb dX4_depth_1 rfl hl (by decide) rfl (fun ls hl => ?_)
  refine lv_aload_n hx hb dX4_depth_2 rfl (lv_at hl 1 rfl) ?_
  refine lv_iconst (v := zI 5) hx hb dX4_depth_3 (by decide +kernel) ?_
  refine lv_iload_n hx hb dX4_depth_4 rfl (lv_at hl 2 rfl) ?_
  refine m_ci (va_runV (As := [.int (zI 5), .int (zI (x : Int))]) (rest := []) ⟨hx, hb, hml, hown, hts⟩ (metX4_of 5 (m0 := x) (by omega)) (cwV 2 hts (lw_V q3467 q3469 qs47 q102 q3470) rfl rfl rfl (by decide +kernel) ⟨Nat.le_of_ble_eq_true rfl, Nat.le_of_ble_eq_true rfl⟩) (m_preV hG) rfl rfl hl.1 rfl (lv_room (Nat.le_of_ble_eq_true rfl)) dX4_depth_5 ⟨Nat.le_of_ble_eq_true rfl, Nat.le_of_ble_eq_true rfl⟩) hG (fun r_1 S_2 H locs hp hG => ?_)
  obtain ⟨rfl, rfl⟩ := hp
  have hG : mW X mo ad S s H locs := hG
  refine g_topz (y := (oI (rAns (wRk w x)))) (hO.ans (m := x) (by omega)) ?_
  have hv1 := oI_lt (fun z9 hz9 => hK.ra (m := x) (x := z9) (by omega) hz9)
  refine lv_istore_n (lv' := [(3, .int (zI (oI (rAns (wRk w x))))), (2, .int (zI 0)), (0, .ref mo), (1, .int (zI (x : Int)))]) hx hb dX4_depth_8 rfl hl (by decide) rfl (fun ls hl => ?_)
  refine g_loop (fun mz H locs ls => ∃ (n : Nat) (o : Option Nat), ((∀ u, o = some u → u < wM w ∧ u + n < 1000) ∧ dpF w (x + 1) x = n + dpO w o ∧ mz = (oI o + 1).toNat) ∧ mW X mo ad S s H locs ∧ lv_has ls 4 [(0, .ref mo), (1, .int (zI (x : Int))), (2, .int (zI (n : Int))), (3, .int (zI (oI o)))]) ((oI (rAns (wRk w x)) + 1).toNat) ⟨0, (rAns (wRk w x)), ⟨fun u hu => by have := hK.ra hx9 hu; omega, by rw [dpF_O hK hx9, Nat.zero_add], rfl⟩, hG, (lv_sub hl [2, 3, 1, 0] rfl)⟩ (fun mz ihA H locs ls hI => ?_)
  obtain ⟨n, o, ⟨hlt, hdp, hmz⟩, hG, hl⟩ := hI
  refine lv_iload_n hx hb dX4_depth_9 rfl (lv_at hl 3 rfl) ?_
  refine lv_iconst (v := zI (-1)) hx hb dX4_depth_10 (by decide +kernel) ?_
  refine g_ceq (tgt := 27) hx hb dX4_depth_11 (by decide) (by have := oI_R o (fun x hx => by have := hlt x hx; omega); omega) (fun h1 => ?_) (fun h1 => ?_)
  · refine lv_iload_n hx hb dX4_depth_27 rfl (lv_at hl 2 rfl) ?_
    exact m_iret hx hb hr hlocks hG (⟨congrArg zI (by rw [hdp, oI_m1.mp h1]; rfl), rfl⟩) ⟨Nat.le_of_ble_eq_true rfl, Nat.le_of_ble_eq_true rfl⟩ dX4_depth_28
  · obtain ⟨c0, rfl⟩ : ∃ c0, o = some c0 := by cases o with
      | none => exact absurd rfl h1
      | some x => exact ⟨x, rfl⟩
    have hc0 := hlt c0 rfl
    rw [oI_some] at hl
    have hl : lv_has ls 4 [(0, .ref mo), (1, .int (zI (x : Int))), (2, .int (zI (n : Int))), (3, .int (zI (c0 : Int)))] := by exact hl
    refine lv_iinc (v := zI ((n : Int) + 1 : Int)) (lv' := [(2, .int (zI ((n : Int) + 1 : Int))), (0, .ref mo), (1, .int (zI (x : Int))), (3, .int (zI (c0 : Int)))]) hx hb dX4_depth_14 hl (k := 2) rfl ((zI_add _ _).trans (congrArg zI (by omega))) (by decide) rfl (fun ls hl => ?_)
    refine lv_aload_n hx hb dX4_depth_17 rfl (lv_at hl 1 rfl) ?_
    refine lv_iconst (v := zI 5) hx hb dX4_depth_18 (by decide +kernel) ?_
    refine lv_iload_n hx hb dX4_depth_19 rfl (lv_at hl 3 rfl) ?_
    refine m_ci (va_runV (As := [.int (zI 5), .int (zI (c0 : Int))]) (rest := []) ⟨hx, hb, hml, hown, hts⟩ (metX4_of 5 (m0 := c0) (by omega)) (cwV 2 hts (lw_V q3467 q3469 qs47 q102 q3470) rfl rfl rfl (by decide +kernel) ⟨Nat.le_of_ble_eq_true rfl, Nat.le_of_ble_eq_true rfl⟩) (m_preV hG) rfl rfl hl.1 rfl (lv_room (Nat.le_of_ble_eq_true rfl)) dX4_depth_20 ⟨Nat.le_of_ble_eq_true rfl, Nat.le_of_ble_eq_true rfl⟩) hG (fun r_3 S_4 H locs hp hG => ?_)
    obtain ⟨rfl, rfl⟩ := hp
    have hG : mW X mo ad S s H locs := hG
    refine g_topz (y := (oI (rAns (wRk w c0)))) (hO.ans (m := c0) (by omega)) ?_
    have hv2 := oI_lt (fun z9 hz9 => hK.ra (m := c0) (x := z9) (by omega) hz9)
    refine lv_istore_n (lv' := [(3, .int (zI (oI (rAns (wRk w c0))))), (2, .int (zI ((n : Int) + 1 : Int))), (0, .ref mo), (1, .int (zI (x : Int)))]) hx hb dX4_depth_23 rfl hl (by decide) rfl (fun ls hl => ?_)
    refine lv_goto (tgt := 9) hx hb dX4_depth_24 (by decide) ?_
    exact ihA ((oI (rAns (wRk w c0)) + 1).toNat) (by rw [hmz, oI_some]; omega) H locs ls ⟨(n + 1), (rAns (wRk w c0)), ⟨fun u hu => by have := hK.ra (m := c0) (by omega) hu; omega, by rw [hdp]; show n + (dpF w (c0 + 1) c0 + 1) = _; rw [dpF_O hK (by omega)]; omega, rfl⟩, hG, (lv_sub hl [2, 3, 1, 0] rfl)⟩

set_option maxHeartbeats 4000000 in
theorem metX4_isIn {l : Launch} {X : gX} {mo : Nat} {ad : Nat → Nat} {S : mS} {w : aW} {x y : Nat} (hO : mO S w) (hK : wOK w) (hx9 : x < wM w) (hy9 : y < 1000) : Met l yX4_isIn (ws_ yX4_isIn cX4_isIn 4 (some FieldType.boolean)) ({ frames := 1, cells := 0, slots := 0, locals := 22 }) (mP X mo ad S [.ref mo, .int (zI (x : Int)), .int (zI (y : Int))]) (mQi X mo ad (fun u T => ∃ b : Int, u = zI b ∧ ((b = 1 ∧ (aIn w y x = true)) ∨ (b = 0 ∧ (¬ aIn w y x = true))) ∧ S = T)) 0 0 (mA mo ad) := by
  refine Met.m (by decide) (Nat.le_of_ble_eq_true rfl) ?_
  intro p e s m below meth c ls hx hb hr hts hown hlocks hml hG hl
  have hl : lv_has ls 4 [(0, .ref mo), (1, .int (zI (x : Int))), (2, .int (zI (y : Int)))] := hl
  have hNN := hK.n
  have hMM := hK.m
  refine lv_aload_n hx hb dX4_isIn_0 rfl (lv_at hl 0 rfl) ?_
  refine lv_iconst (v := zI 5) hx hb dX4_isIn_1 (by decide +kernel) ?_
  refine lv_iload_n hx hb dX4_isIn_2 rfl (lv_at hl 1 rfl) ?_
  refine m_ci (va_runV (As := [.int (zI 5), .int (zI (x : Int))]) (rest := []) ⟨hx, hb, hml, hown, hts⟩ (metX4_of 5 (m0 := x) (by omega)) (cwV 2 hts (lw_V q3467 q3469 qs47 q102 q3470) rfl rfl rfl (by decide +kernel) ⟨Nat.le_of_ble_eq_true rfl, Nat.le_of_ble_eq_true rfl⟩) (m_preV hG) rfl rfl hl.1 rfl (lv_room (Nat.le_of_ble_eq_true rfl)) dX4_isIn_3 ⟨Nat.le_of_ble_eq_true rfl, Nat.le_of_ble_eq_true rfl⟩) hG (fun r_1 S_2 H locs hp hG => ?_)
  obtain ⟨rfl, rfl⟩ := hp
  have hG : mW X mo ad S s H locs := hG
  refine g_topz (y := (oI (rAns (wRk w x)))) (hO.ans (m := x) (by omega)) ?_
  have hv1 := oI_lt (fun z9 hz9 => hK.ra (m := x) (x := z9) (by omega) hz9)
  refine lv_istore_n (lv' := [(3, .int (zI (oI (rAns (wRk w x))))), (0, .ref mo), (1, .int (zI (x : Int))), (2, .int (zI (y : Int)))]) hx hb dX4_isIn_6 rfl hl (by decide) rfl (fun ls hl => ?_)
  refine g_loop (fun mz H locs ls => ∃ (o : Option Nat), ((∀ u, o = some u → u < wM w) ∧ aIn w y x = inO w y o ∧ mz = (oI o + 1).toNat) ∧ mW X mo ad S s H locs ∧ lv_has ls 4 [(0, .ref mo), (1, .int (zI (x : Int))), (2, .int (zI (y : Int))), (3, .int (zI (oI o)))]) ((oI (rAns (wRk w x)) + 1).toNat) ⟨(rAns (wRk w x)), ⟨fun u hu => by have := hK.ra hx9 hu; omega, inF_O hK hx9, rfl⟩, hG, (lv_sub hl [1, 2, 3, 0] rfl)⟩ (fun mz ihA H locs ls hI => ?_)
  obtain ⟨o, ⟨hlt, hin, hmz⟩, hG, hl⟩ := hI
  refine lv_iload_n hx hb dX4_isIn_7 rfl (lv_at hl 3 rfl) ?_
  refine lv_iconst (v := zI (-1)) hx hb dX4_isIn_8 (by decide +kernel) ?_
  refine g_ceq (tgt := 27) hx hb dX4_isIn_9 (by decide) (by have := oI_R o (fun x hx => by have := hlt x hx; omega); omega) (fun h1 => ?_) (fun h1 => ?_)
  · refine g_join (σ := Int) 37 (fun b => (b = 1 ∧ (aIn w y x = true)) ∨ (b = 0 ∧ (¬ aIn w y x = true))) (fun b => [.int (zI b)]) (fun b hJ => ?_) (fun K => ?_)
    · exact m_zret hx hb hr hlocks (by rcases hJ with ⟨rfl, -⟩ | ⟨rfl, -⟩ <;> rfl) hG (⟨b, rfl, hJ, rfl⟩) ⟨Nat.le_of_ble_eq_true rfl, Nat.le_of_ble_eq_true rfl⟩ dX4_isIn_37
    · refine lv_iload_n hx hb dX4_isIn_27 rfl (lv_at hl 3 rfl) ?_
      refine lv_iload_n hx hb dX4_isIn_28 rfl (lv_at hl 2 rfl) ?_
      refine g_cne (tgt := 36) hx hb dX4_isIn_29 (by decide) (by have q := oI_R o (fun x hx => by have := hlt x hx; omega); omega) (fun h3 => ?_) (fun h3 => ?_)
      · refine lv_iconst (v := zI 0) hx hb dX4_isIn_36 (by decide +kernel) ?_
        exact K 0 (Or.inr ⟨rfl, by rw [hin, oI_m1.mp h1]; exact nofun⟩)
      · refine lv_iconst (v := zI 1) hx hb dX4_isIn_32 (by decide +kernel) ?_
        refine lv_goto (tgt := 37) hx hb dX4_isIn_33 (by decide) ?_
        exact K 1 (Or.inl ⟨rfl, by have : (-1 : Int) = y := h1.symm.trans h3; omega⟩)
  · refine lv_iload_n hx hb dX4_isIn_12 rfl (lv_at hl 3 rfl) ?_
    refine lv_iload_n hx hb dX4_isIn_13 rfl (lv_at hl 2 rfl) ?_
    refine g_ceq (tgt := 27) hx hb dX4_isIn_14 (by decide) (by have q := oI_R o (fun x hx => by have := hlt x hx; omega); omega) (fun h2 => ?_) (fun h2 => ?_)
    · refine g_join (σ := Int) 37 (fun b => (b = 1 ∧ (aIn w y x = true)) ∨ (b = 0 ∧ (¬ aIn w y x = true))) (fun b => [.int (zI b)]) (fun b hJ => ?_) (fun K => ?_)
      · exact m_zret hx hb hr hlocks (by rcases hJ with ⟨rfl, -⟩ | ⟨rfl, -⟩ <;> rfl) hG (⟨b, rfl, hJ, rfl⟩) ⟨Nat.le_of_ble_eq_true rfl, Nat.le_of_ble_eq_true rfl⟩ dX4_isIn_37
      · refine lv_iload_n hx hb dX4_isIn_27 rfl (lv_at hl 3 rfl) ?_
        refine lv_iload_n hx hb dX4_isIn_28 rfl (lv_at hl 2 rfl) ?_
        refine g_cne (tgt := 36) hx hb dX4_isIn_29 (by decide) (by have q := oI_R o (fun x hx => by have := hlt x hx; omega); omega) (fun h3 => ?_) (fun h3 => ?_)
        · refine lv_iconst (v := zI 0) hx hb dX4_isIn_36 (by decide +kernel) ?_
          exact K 0 (Or.inr ⟨rfl, absurd h2 h3⟩)
        · refine lv_iconst (v := zI 1) hx hb dX4_isIn_32 (by decide +kernel) ?_
          refine lv_goto (tgt := 37) hx hb dX4_isIn_33 (by decide) ?_
          exact K 1 (Or.inl ⟨rfl, by rw [hin, oI_n.mp h2]; show (decide (y = y) || _) = true; rw [decide_eq_true rfl, Bool.true_or]⟩)
    · obtain ⟨c0, rfl⟩ : ∃ c0, o = some c0 := by cases o with
      | none => exact absurd rfl h1
      | some x => exact ⟨x, rfl⟩
      have hc0 := hlt c0 rfl
      rw [oI_some] at hl h2
      have hl : lv_has ls 4 [(0, .ref mo), (1, .int (zI (x : Int))), (2, .int (zI (y : Int))), (3, .int (zI (c0 : Int)))] := by exact hl
      refine lv_aload_n hx hb dX4_isIn_17 rfl (lv_at hl 0 rfl) ?_
      refine lv_iconst (v := zI 5) hx hb dX4_isIn_18 (by decide +kernel) ?_
      refine lv_iload_n hx hb dX4_isIn_19 rfl (lv_at hl 3 rfl) ?_
      refine m_ci (va_runV (As := [.int (zI 5), .int (zI (c0 : Int))]) (rest := []) ⟨hx, hb, hml, hown, hts⟩ (metX4_of 5 (m0 := c0) (by omega)) (cwV 2 hts (lw_V q3467 q3469 qs47 q102 q3470) rfl rfl rfl (by decide +kernel) ⟨Nat.le_of_ble_eq_true rfl, Nat.le_of_ble_eq_true rfl⟩) (m_preV hG) rfl rfl hl.1 rfl (lv_room (Nat.le_of_ble_eq_true rfl)) dX4_isIn_20 ⟨Nat.le_of_ble_eq_true rfl, Nat.le_of_ble_eq_true rfl⟩) hG (fun r_3 S_4 H locs hp hG => ?_)
      obtain ⟨rfl, rfl⟩ := hp
      have hG : mW X mo ad S s H locs := hG
      refine g_topz (y := (oI (rAns (wRk w c0)))) (hO.ans (m := c0) (by omega)) ?_
      have hv2 := oI_lt (fun z9 hz9 => hK.ra (m := c0) (x := z9) (by omega) hz9)
      refine lv_istore_n (lv' := [(3, .int (zI (oI (rAns (wRk w c0))))), (0, .ref mo), (1, .int (zI (x : Int))), (2, .int (zI (y : Int)))]) hx hb dX4_isIn_23 rfl hl (by decide) rfl (fun ls hl => ?_)
      refine lv_goto (tgt := 7) hx hb dX4_isIn_24 (by decide) ?_
      exact ihA ((oI (rAns (wRk w c0)) + 1).toNat) (by rw [hmz, oI_some]; omega) H locs ls ⟨(rAns (wRk w c0)), ⟨fun u hu => by have := hK.ra (m := c0) (by omega) hu; omega, by rw [hin]; show (decide (c0 = y) || inF w y (c0 + 1) c0) = _; rw [inF_O hK hc0, decide_eq_false (fun q => h2 (by omega)), Bool.false_or], rfl⟩, hG, (lv_sub hl [1, 2, 3, 0] rfl)⟩

set_option maxHeartbeats 4000000 in
theorem metX4_thread {l : Launch} {X : gX} {mo : Nat} {ad : Nat → Nat} {S : mS} {w : aW} {y : Nat} (hO : mO S w) (hK : wOK w) (hy9 : y < 1000) : Met l yX4_thread (ws_ yX4_thread cX4_thread 4 (some FieldType.int)) ({ frames := 2, cells := 0, slots := 0, locals := 45 }) (mP X mo ad S [.ref mo, .int (zI (y : Int))]) (mQi X mo ad (fun u T => u = zI (cnB (aIn w y) (wM w) : Nat) ∧ S = T)) 0 0 (mA mo ad) := by
  refine Met.m (by decide) (Nat.le_of_ble_eq_true rfl) ?_
  intro p e s m below meth c ls hx hb hr hts hown hlocks hml hG hl
  have hl : lv_has ls 4 [(0, .ref mo), (1, .int (zI (y : Int)))] := hl
  have hNN := hK.n
  have hMM := hK.m
  refine lv_iconst (v := zI 0) hx hb dX4_thread_0 (by decide +kernel) ?_
  refine lv_istore_n (lv' := [(2, .int (zI 0)), (0, .ref mo), (1, .int (zI (y : Int)))]) hx hb dX4_thread_1 rfl hl (by decide) rfl (fun ls hl => ?_)
  refine lv_iconst (v := zI 0) hx hb dX4_thread_2 (by decide +kernel) ?_
  refine lv_istore_n (lv' := [(3, .int (zI 0)), (2, .int (zI 0)), (0, .ref mo), (1, .int (zI (y : Int)))]) hx hb dX4_thread_3 rfl hl (by decide) rfl (fun ls hl => ?_)
  refine g_loop (fun mz H locs ls => ∃ (x : Nat), (x ≤ wM w ∧ mz = wM w - x) ∧ mW X mo ad S s H locs ∧ lv_has ls 4 [(0, .ref mo), (1, .int (zI (y : Int))), (2, .int (zI (cnB (aIn w y) x : Int))), (3, .int (zI (x : Int)))]) (wM w - 0) ⟨0, ⟨Nat.zero_le _, rfl⟩, hG, (lv_sub hl [2, 3, 1, 0] rfl)⟩ (fun mz ihA H locs ls hI => ?_)
  obtain ⟨x, ⟨hx9, hmz⟩, hG, hl⟩ := hI
  refine lv_iload_n hx hb dX4_thread_4 rfl (lv_at hl 3 rfl) ?_
  refine lv_aload_n hx hb dX4_thread_5 rfl (lv_at hl 0 rfl) ?_
  refine m_get 5 (by decide) (v := .int (zI (wM w : Int))) (congrArg (fun z => Value.int (zI z)) (show S.1 5 = (wM w : Int) from hO.m)) hx hb hts hown hG (hts _ q3301) dX4_thread_6 ?_
  have hcl := cnB_le (aIn w y) x
  refine g_cge (tgt := 30) hx hb dX4_thread_9 (by decide) (by omega) (fun h1 => ?_) (fun h1 => ?_)
  · refine lv_iload_n hx hb dX4_thread_30 rfl (lv_at hl 2 rfl) ?_
    exact m_iret hx hb hr hlocks hG (⟨by rw [show wM w = x by omega], rfl⟩) ⟨Nat.le_of_ble_eq_true rfl, Nat.le_of_ble_eq_true rfl⟩ dX4_thread_31
  · refine lv_aload_n hx hb dX4_thread_12 rfl (lv_at hl 0 rfl) ?_
    refine lv_iload_n hx hb dX4_thread_13 rfl (lv_at hl 3 rfl) ?_
    refine lv_iload_n hx hb dX4_thread_14 rfl (lv_at hl 1 rfl) ?_
    refine m_ci (va_runV (As := [.int (zI (x : Int)), .int (zI (y : Int))]) (rest := []) ⟨hx, hb, hml, hown, hts⟩ (metX4_isIn (x := x) (y := y) hO hK (by omega) (by omega)) (cwV 2 hts (lw_V q3595 q3597 qs65 q102 q3598) rfl rfl rfl (by decide +kernel) ⟨Nat.le_of_ble_eq_true rfl, Nat.le_of_ble_eq_true rfl⟩) (m_preV hG) rfl rfl hl.1 rfl (lv_room (Nat.le_of_ble_eq_true rfl)) dX4_thread_15 ⟨Nat.le_of_ble_eq_true rfl, Nat.le_of_ble_eq_true rfl⟩) hG (fun r_1 S_2 H locs hp hG => ?_)
    obtain ⟨b3, rfl, hb3, rfl⟩ := hp
    have hG : mW X mo ad S s H locs := hG
    refine g_eq (tgt := 24) hx hb dX4_thread_18 (by decide) (by omega) (fun h2 => ?_) (fun h2 => ?_)
    · have hl : lv_has ls 4 [(0, .ref mo), (1, .int (zI (y : Int))), (2, .int (zI (cnB (aIn w y) (x + 1) : Int))), (3, .int (zI (x : Int)))] := by rw [show cnB (aIn w y) (x + 1) = cnB (aIn w y) x from by show cnB (aIn w y) x + (if aIn w y x = true then 1 else 0) = _; rw [if_neg (hb3.elim (fun q => absurd q.1 (by omega)) (fun q => q.2))]; exact Nat.add_zero _]; exact hl
      refine lv_iinc (v := zI ((x : Int) + 1 : Int)) (lv' := [(3, .int (zI ((x : Int) + 1 : Int))), (0, .ref mo), (1, .int (zI (y : Int))), (2, .int (zI (cnB (aIn w y) (x + 1) : Int)))]) hx hb dX4_thread_24 hl (k := 3) rfl ((zI_add _ _).trans (congrArg zI (by omega))) (by decide) rfl (fun ls hl => ?_)
      refine lv_goto (tgt := 4) hx hb dX4_thread_27 (by decide) ?_
      exact ihA (wM w - (x + 1)) (by omega) H locs ls ⟨(x + 1), ⟨by omega, rfl⟩, hG, (lv_sub hl [1, 2, 3, 0] rfl)⟩
    · refine lv_iinc (v := zI ((cnB (aIn w y) x : Int) + 1 : Int)) (lv' := [(2, .int (zI ((cnB (aIn w y) x : Int) + 1 : Int))), (0, .ref mo), (1, .int (zI (y : Int))), (3, .int (zI (x : Int)))]) hx hb dX4_thread_21 hl (k := 2) rfl ((zI_add _ _).trans (congrArg zI (by omega))) (by decide) rfl (fun ls hl => ?_)
      have hl : lv_has ls 4 [(2, .int (zI (cnB (aIn w y) (x + 1) : Int))), (0, .ref mo), (1, .int (zI (y : Int))), (3, .int (zI (x : Int)))] := by rw [show ((cnB (aIn w y) (x + 1) : Nat) : Int) = (cnB (aIn w y) x : Int) + 1 from by show ((cnB (aIn w y) x + (if aIn w y x = true then 1 else 0) : Nat) : Int) = _; rw [if_pos (hb3.elim (fun q => q.2) (fun q => absurd q.1 (by omega)))]; rfl]; exact hl
      refine lv_iinc (v := zI ((x : Int) + 1 : Int)) (lv' := [(3, .int (zI ((x : Int) + 1 : Int))), (2, .int (zI (cnB (aIn w y) (x + 1) : Int))), (0, .ref mo), (1, .int (zI (y : Int)))]) hx hb dX4_thread_24 hl (k := 3) rfl ((zI_add _ _).trans (congrArg zI (by omega))) (by decide) rfl (fun ls hl => ?_)
      refine lv_goto (tgt := 4) hx hb dX4_thread_27 (by decide) ?_
      exact ihA (wM w - (x + 1)) (by omega) H locs ls ⟨(x + 1), ⟨by omega, rfl⟩, hG, (lv_sub hl [2, 3, 1, 0] rfl)⟩

set_option maxHeartbeats 4000000 in
theorem metX4_isOpen {l : Launch} {X : gX} {mo : Nat} {ad : Nat → Nat} {S : mS} {w : aW} {y : Nat} (hO : mO S w) (hK : wOK w) (hy9 : y < 1000) : Met l yX4_isOpen (ws_ yX4_isOpen cX4_isOpen 3 (some FieldType.boolean)) ({ frames := 2, cells := 0, slots := 0, locals := 45 }) (mP X mo ad S [.ref mo, .int (zI (y : Int))]) (mQi X mo ad (fun u T => ∃ b : Int, u = zI b ∧ ((b = 1 ∧ (aOpen w y = true)) ∨ (b = 0 ∧ (¬ aOpen w y = true))) ∧ S = T)) 0 0 (mA mo ad) := by
  refine Met.m (by decide) (Nat.le_of_ble_eq_true rfl) ?_
  intro p e s m below meth c ls hx hb hr hts hown hlocks hml hG hl
  have hl : lv_has ls 3 [(0, .ref mo), (1, .int (zI (y : Int)))] := hl
  have hNN := hK.n
  have hMM := hK.m
  refine lv_iconst (v := zI 0) hx hb dX4_isOpen_0 (by decide +kernel) ?_
  refine lv_istore_n (lv' := [(2, .int (zI 0)), (0, .ref mo), (1, .int (zI (y : Int)))]) hx hb dX4_isOpen_1 rfl hl (by decide) rfl (fun ls hl => ?_)
  refine g_loop (fun mz H locs ls => ∃ (x : Nat), (x ≤ wM w ∧ mz = wM w - x ∧ ∀ k, k < x → aOp w y k = false) ∧ mW X mo ad S s H locs ∧ lv_has ls 3 [(0, .ref mo), (1, .int (zI (y : Int))), (2, .int (zI (x : Int)))]) (wM w - 0) ⟨0, ⟨Nat.zero_le _, rfl, fun k hk => by omega⟩, hG, (lv_sub hl [1, 2, 0] rfl)⟩ (fun mz ihA H locs ls hI => ?_)
  obtain ⟨x, ⟨hx9, hmz, hno⟩, hG, hl⟩ := hI
  refine lv_iload_n hx hb dX4_isOpen_2 rfl (lv_at hl 2 rfl) ?_
  refine lv_aload_n hx hb dX4_isOpen_3 rfl (lv_at hl 0 rfl) ?_
  refine m_get 5 (by decide) (v := .int (zI (wM w : Int))) (congrArg (fun z => Value.int (zI z)) (show S.1 5 = (wM w : Int) from hO.m)) hx hb hts hown hG (hts _ q3301) dX4_isOpen_4 ?_
  refine g_cge (tgt := 42) hx hb dX4_isOpen_7 (by decide) (by omega) (fun h1 => ?_) (fun h1 => ?_)
  · refine lv_iconst (v := zI 0) hx hb dX4_isOpen_42 (by decide +kernel) ?_
    exact m_zret hx hb hr hlocks rfl hG (⟨0, rfl, Or.inr ⟨rfl, by unfold aOpen; rw [anB_no.mpr (fun k hk => hno k (by omega))]; exact nofun⟩, rfl⟩) ⟨Nat.le_of_ble_eq_true rfl, Nat.le_of_ble_eq_true rfl⟩ dX4_isOpen_43
  · refine lv_iload_n hx hb dX4_isOpen_10 rfl (lv_at hl 2 rfl) ?_
    refine lv_iload_n hx hb dX4_isOpen_11 rfl (lv_at hl 1 rfl) ?_
    refine g_ceq (tgt := 24) hx hb dX4_isOpen_12 (by decide) (by omega) (fun h2 => ?_) (fun h2 => ?_)
    · have hyx : y = x := by omega
      refine lv_aload_n hx hb dX4_isOpen_24 rfl (lv_at hl 0 rfl) ?_
      refine lv_bipush (v := zI 6) hx hb dX4_isOpen_25 (by decide +kernel) ?_
      refine lv_iload_n hx hb dX4_isOpen_27 rfl (lv_at hl 2 rfl) ?_
      refine m_ci (va_runV (As := [.int (zI 6), .int (zI (x : Int))]) (rest := []) ⟨hx, hb, hml, hown, hts⟩ (metX4_of 6 (m0 := x) (by omega)) (cwV 2 hts (lw_V q3467 q3469 qs47 q102 q3470) rfl rfl rfl (by decide +kernel) ⟨Nat.le_of_ble_eq_true rfl, Nat.le_of_ble_eq_true rfl⟩) (m_preV hG) rfl rfl hl.1 rfl (lv_room (Nat.le_of_ble_eq_true rfl)) dX4_isOpen_28 ⟨Nat.le_of_ble_eq_true rfl, Nat.le_of_ble_eq_true rfl⟩) hG (fun r_1 S_2 H locs hp hG => ?_)
      obtain ⟨rfl, rfl⟩ := hp
      have hG : mW X mo ad S s H locs := hG
      refine g_topz (y := (bI (wSt w x))) (hO.st (m := x) (by omega)) ?_
      have hv1 : bI (wSt w x) = 0 ∨ bI (wSt w x) = 1 := by cases wSt w x <;> simp [bI]
      refine g_ne (tgt := 36) hx hb dX4_isOpen_31 (by decide) (by omega) (fun h4 => ?_) (fun h4 => ?_)
      · refine lv_iinc (v := zI ((x : Int) + 1 : Int)) (lv' := [(2, .int (zI ((x : Int) + 1 : Int))), (0, .ref mo), (1, .int (zI (y : Int)))]) hx hb dX4_isOpen_36 hl (k := 2) rfl ((zI_add _ _).trans (congrArg zI (by omega))) (by decide) rfl (fun ls hl => ?_)
        refine lv_goto (tgt := 2) hx hb dX4_isOpen_39 (by decide) ?_
        exact ihA (wM w - (x + 1)) (by omega) H locs ls ⟨(x + 1), ⟨by omega, rfl, fun k hk => by by_cases hkx : k = x; (subst hkx; unfold aOp; rw [show wSt w k = true from by cases hst : wSt w k with | true => rfl | false => (rw [hst] at h4; exact absurd rfl h4)]; exact Bool.and_false _); exact hno k (by omega)⟩, hG, (lv_sub hl [1, 2, 0] rfl)⟩
      · refine lv_iconst (v := zI 1) hx hb dX4_isOpen_34 (by decide +kernel) ?_
        exact m_zret hx hb hr hlocks rfl hG (⟨1, rfl, Or.inl ⟨rfl, anB_yes (k := x) (by omega) (by unfold aOp; rw [show wSt w x = false from bI_0.mp h4, decide_eq_true hyx.symm, Bool.true_or]; rfl)⟩, rfl⟩) ⟨Nat.le_of_ble_eq_true rfl, Nat.le_of_ble_eq_true rfl⟩ dX4_isOpen_35
    · refine lv_aload_n hx hb dX4_isOpen_15 rfl (lv_at hl 0 rfl) ?_
      refine lv_iload_n hx hb dX4_isOpen_16 rfl (lv_at hl 2 rfl) ?_
      refine lv_iload_n hx hb dX4_isOpen_17 rfl (lv_at hl 1 rfl) ?_
      refine m_ci (va_runV (As := [.int (zI (x : Int)), .int (zI (y : Int))]) (rest := []) ⟨hx, hb, hml, hown, hts⟩ (metX4_isIn (x := x) (y := y) hO hK (by omega) (by omega)) (cwV 2 hts (lw_V q3595 q3597 qs65 q102 q3598) rfl rfl rfl (by decide +kernel) ⟨Nat.le_of_ble_eq_true rfl, Nat.le_of_ble_eq_true rfl⟩) (m_preV hG) rfl rfl hl.1 rfl (lv_room (Nat.le_of_ble_eq_true rfl)) dX4_isOpen_18 ⟨Nat.le_of_ble_eq_true rfl, Nat.le_of_ble_eq_true rfl⟩) hG (fun r_3 S_4 H locs hp hG => ?_)
      obtain ⟨b3, rfl, hb3, rfl⟩ := hp
      have hG : mW X mo ad S s H locs := hG
      refine g_eq (tgt := 36) hx hb dX4_isOpen_21 (by decide) (by omega) (fun h3 => ?_) (fun h3 => ?_)
      · refine lv_iinc (v := zI ((x : Int) + 1 : Int)) (lv' := [(2, .int (zI ((x : Int) + 1 : Int))), (0, .ref mo), (1, .int (zI (y : Int)))]) hx hb dX4_isOpen_36 hl (k := 2) rfl ((zI_add _ _).trans (congrArg zI (by omega))) (by decide) rfl (fun ls hl => ?_)
        refine lv_goto (tgt := 2) hx hb dX4_isOpen_39 (by decide) ?_
        exact ihA (wM w - (x + 1)) (by omega) H locs ls ⟨(x + 1), ⟨by omega, rfl, fun k hk => by by_cases hkx : k = x; (subst hkx; unfold aOp; rw [decide_eq_false (by omega : ¬ k = y), Bool.false_or, Bool.eq_false_iff.mpr (hb3.elim (fun q => absurd q.1 (by omega)) (fun q => q.2))]; rfl); exact hno k (by omega)⟩, hG, (lv_sub hl [1, 2, 0] rfl)⟩
      · refine lv_aload_n hx hb dX4_isOpen_24 rfl (lv_at hl 0 rfl) ?_
        refine lv_bipush (v := zI 6) hx hb dX4_isOpen_25 (by decide +kernel) ?_
        refine lv_iload_n hx hb dX4_isOpen_27 rfl (lv_at hl 2 rfl) ?_
        refine m_ci (va_runV (As := [.int (zI 6), .int (zI (x : Int))]) (rest := []) ⟨hx, hb, hml, hown, hts⟩ (metX4_of 6 (m0 := x) (by omega)) (cwV 2 hts (lw_V q3467 q3469 qs47 q102 q3470) rfl rfl rfl (by decide +kernel) ⟨Nat.le_of_ble_eq_true rfl, Nat.le_of_ble_eq_true rfl⟩) (m_preV hG) rfl rfl hl.1 rfl (lv_room (Nat.le_of_ble_eq_true rfl)) dX4_isOpen_28 ⟨Nat.le_of_ble_eq_true rfl, Nat.le_of_ble_eq_true rfl⟩) hG (fun r_5 S_6 H locs hp hG => ?_)
        obtain ⟨rfl, rfl⟩ := hp
        have hG : mW X mo ad S s H locs := hG
        refine g_topz (y := (bI (wSt w x))) (hO.st (m := x) (by omega)) ?_
        have hv2 : bI (wSt w x) = 0 ∨ bI (wSt w x) = 1 := by cases wSt w x <;> simp [bI]
        refine g_ne (tgt := 36) hx hb dX4_isOpen_31 (by decide) (by omega) (fun h4 => ?_) (fun h4 => ?_)
        · refine lv_iinc (v := zI ((x : Int) + 1 : Int)) (lv' := [(2, .int (zI ((x : Int) + 1 : Int))), (0, .ref mo), (1, .int (zI (y : Int)))]) hx hb dX4_isOpen_36 hl (k := 2) rfl ((zI_add _ _).trans (congrArg zI (by omega))) (by decide) rfl (fun ls hl => ?_)
          refine lv_goto (tgt := 2) hx hb dX4_isOpen_39 (by decide) ?_
          exact ihA (wM w - (x + 1)) (by omega) H locs ls ⟨(x + 1), ⟨by omega, rfl, fun k hk => by by_cases hkx : k = x; (subst hkx; unfold aOp; rw [show wSt w k = true from by cases hst : wSt w k with | true => rfl | false => (rw [hst] at h4; exact absurd rfl h4)]; exact Bool.and_false _); exact hno k (by omega)⟩, hG, (lv_sub hl [1, 2, 0] rfl)⟩
        · refine lv_iconst (v := zI 1) hx hb dX4_isOpen_34 (by decide +kernel) ?_
          exact m_zret hx hb hr hlocks rfl hG (⟨1, rfl, Or.inl ⟨rfl, anB_yes (k := x) (by omega) (by unfold aOp; rw [show wSt w x = false from bI_0.mp h4, (hb3.elim (fun q => q.2) (fun q => absurd q.1 (by omega)) : aIn w y x = true), Bool.or_true]; rfl)⟩, rfl⟩) ⟨Nat.le_of_ble_eq_true rfl, Nat.le_of_ble_eq_true rfl⟩ dX4_isOpen_35

