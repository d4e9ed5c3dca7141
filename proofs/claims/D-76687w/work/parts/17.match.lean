/-! THE MATCH: plain facts for both walks -/
set_option maxRecDepth 100000
def bI (b : Bool) : Int := if b = true then 1 else 0
theorem bI_t : bI true = 1 := rfl
theorem bI_f : bI false = 0 := rfl
theorem zc_eq {x y : Int64} {z : Int} (h : (z = -1 ∧ x < y) ∨ (z = 0 ∧ x = y) ∨ (z = 1 ∧ y < x)) (hz : z = 0) : x = y := by
  rcases h with ⟨h, -⟩ | ⟨-, h⟩ | ⟨h, -⟩
  · omega
  · exact h
  · omega
theorem zc_ne {x y : Int64} {z : Int} (h : (z = -1 ∧ x < y) ∨ (z = 0 ∧ x = y) ∨ (z = 1 ∧ y < x)) (hz : z ≠ 0) : x ≠ y := by
  rintro rfl
  rcases h with ⟨-, h⟩ | ⟨h, -⟩ | ⟨-, h⟩
  · rw [Int64.lt_iff_toInt_lt] at h; omega
  · exact hz h
  · rw [Int64.lt_iff_toInt_lt] at h; omega
theorem zc_lt {x y : Int64} {z : Int} (h : (z = -1 ∧ x < y) ∨ (z = 0 ∧ x = y) ∨ (z = 1 ∧ y < x)) : -2147483648 ≤ z ∧ z < 2147483648 := by omega
section MP
variable {al : Nat → Nat → Bool} {n m f i j k : Nat} {s : PU}
theorem prF_out (h : n ≤ i ∨ m ≤ j) : prF al n m f i j s = s := by
  cases f with
  | zero => rfl
  | succ f => unfold prF; rw [if_pos h]
theorem prF_hit (hi : i < n) (hj : j < m) (ha : al i j = true) : prF al n m (f + 1) i j s = prF al n m f (i + 1) (j + 1) (puUse s i j) := by
  rw [prF, if_neg (by omega), if_pos ha]
theorem prF_dn (hi : i < n) (hj : j < m) (ha : ¬ al i j = true) (h : lc al n m i (j + 1) ≤ lc al n m (i + 1) j) : prF al n m (f + 1) i j s = prF al n m f (i + 1) j s := by
  rw [prF, if_neg (by omega), if_neg ha, if_pos h]
theorem prF_rt (hi : i < n) (hj : j < m) (ha : ¬ al i j = true) (h : lc al n m (i + 1) j < lc al n m i (j + 1)) : prF al n m (f + 1) i j s = prF al n m f i (j + 1) s := by
  rw [prF, if_neg (by omega), if_neg ha, if_neg (by omega)]
theorem cnt_up {p : Nat → Option Nat} (hp : p i = none) (hi : i < n) : cnt (va_up p i (some j)) n = cnt p n + 1 := by
  have far : ∀ n, n ≤ i → cnt (va_up p i (some j)) n = cnt p n := by
    intro n
    induction n with
    | zero => intro _; rfl
    | succ n ih =>
      intro h
      unfold cnt
      rw [ih (by omega), va_up_ne p _ (by omega : n ≠ i)]
  induction n with
  | zero => omega
  | succ n ih =>
    unfold cnt
    by_cases h : n = i
    · subst h
      rw [far n (Nat.le_refl _), va_up_self, hp]
      rfl
    · rw [ih (by omega), va_up_ne p _ h]
      omega
theorem cnt_le (p : Nat → Option Nat) : ∀ n, cnt p n ≤ n := by
  intro n
  induction n with
  | zero => exact Nat.le_refl _
  | succ n ih => unfold cnt; split <;> omega
theorem cnt_0 : ∀ n, cnt (fun _ => none) n = 0 := by
  intro n
  induction n with
  | zero => rfl
  | succ n ih => unfold cnt; rw [ih]; rfl
theorem rn_step (hi : i < n) (hj : j < m) (h1 : s.1 i = none) (h2 : s.2 j = false) (ha : al i j = true) : rn al n m s i j = 1 + rn al n m s (i + 1) (j + 1) := by
  unfold rn
  rw [show n - i = (n - (i + 1)) + 1 by omega, rnF, if_pos ⟨hi, hj, h1, h2, ha⟩]
theorem rn_stop (h : ¬ (i < n ∧ j < m ∧ s.1 i = none ∧ s.2 j = false ∧ al i j = true)) : rn al n m s i j = 0 := by
  unfold rn
  cases hf : n - i with
  | zero => rfl
  | succ g => rw [rnF, if_neg h]
theorem rnF_le : ∀ f i j, rnF al n m s f i j ≤ n - i ∧ rnF al n m s f i j ≤ m - j := by
  intro f
  induction f with
  | zero => intro i j; exact ⟨Nat.zero_le _, Nat.zero_le _⟩
  | succ f ih =>
    intro i j
    unfold rnF
    split
    · have := ih (i + 1) (j + 1); omega
    · exact ⟨Nat.zero_le _, Nat.zero_le _⟩
theorem rn_le : rn al n m s i j ≤ n - i ∧ rn al n m s i j ≤ m - j := rnF_le _ i j
theorem rnF_none : ∀ f i j x, x < rnF al n m s f i j → s.1 (i + x) = none := by
  intro f
  induction f with
  | zero => intro i j x h; exact absurd h (Nat.not_lt_zero x)
  | succ f ih =>
    intro i j x h
    unfold rnF at h
    split at h
    · rename_i hc
      cases x with
      | zero => exact hc.2.2.1
      | succ x => rw [show i + (x + 1) = (i + 1) + x by omega]; exact ih (i + 1) (j + 1) x (by omega)
    · exact absurd h (Nat.not_lt_zero x)
theorem rn_none {x : Nat} (h : x < rn al n m s i j) : s.1 (i + x) = none := rnF_none _ i j x h
/-- a best is none at all, or some run -/
def bsP (al : Nat → Nat → Bool) (n m : Nat) (s : PU) (b : Nat × Nat × Nat) : Prop := b.1 = 0 ∨ b.1 = rn al n m s b.2.1 b.2.2
theorem bsJ_P {b : Nat × Nat × Nat} (hb : bsP al n m s b) : ∀ j, bsP al n m s (bsJ al n m s i j b) := by
  intro j
  induction j with
  | zero => exact hb
  | succ j ih =>
    unfold bsJ
    split
    · exact Or.inr rfl
    · exact ih
theorem bsI_P : ∀ i, bsP al n m s (bsI al n m s i (0, 0, 0)) := by
  intro i
  induction i with
  | zero => exact Or.inl rfl
  | succ i ih => unfold bsI; exact bsJ_P ih m
theorem bsI_in (i : Nat) : (bsI al n m s i (0, 0, 0)).1 = 0 ∨ ((bsI al n m s i (0, 0, 0)).2.1 + (bsI al n m s i (0, 0, 0)).1 ≤ n ∧ (bsI al n m s i (0, 0, 0)).2.2 + (bsI al n m s i (0, 0, 0)).1 ≤ m) := by
  rcases bsI_P (al := al) (n := n) (m := m) (s := s) i with h | h
  · exact Or.inl h
  · have := @rn_le al n m (bsI al n m s i (0, 0, 0)).2.1 (bsI al n m s i (0, 0, 0)).2.2 s
    omega
theorem bsI_none {x : Nat} (h : x < (bsI al n m s n (0, 0, 0)).1) : s.1 ((bsI al n m s n (0, 0, 0)).2.1 + x) = none := by
  rcases bsI_P (al := al) (n := n) (m := m) (s := s) n with h1 | h1
  · omega
  · exact rn_none (by rw [← h1]; exact h)
theorem mvUse_far {x : Nat} (h : x < i ∨ i + k ≤ x) : (mvUse s i j k).1 x = s.1 x := by
  induction k with
  | zero => rfl
  | succ k ih =>
    show va_up (mvUse s i j k).1 (i + k) (some (j + k)) x = s.1 x
    rw [va_up_ne _ _ (by omega : x ≠ i + k)]
    exact ih (by omega)
theorem cnt_mvUse (hin : i + k ≤ n) (hz : ∀ x, x < k → s.1 (i + x) = none) : cnt (mvUse s i j k).1 n = cnt s.1 n + k := by
  induction k with
  | zero => rfl
  | succ k ih =>
    show cnt (va_up (mvUse s i j k).1 (i + k) (some (j + k))) n = _
    rw [cnt_up (by rw [mvUse_far (by omega)]; exact hz k (by omega)) (by omega), ih (by omega) (fun x hx => hz x (by omega))]
    omega
theorem bsJ_S {b : Nat × Nat × Nat} : bsJ al n m s i (j + 1) b = if (bsJ al n m s i j b).1 < rn al n m s i j then (rn al n m s i j, i, j) else bsJ al n m s i j b := rfl
/-- the same search begun with r - 1 instead of 0 -/
theorem bsJ_x {r : Nat} (hr : 1 ≤ r) {b c : Nat × Nat × Nat} (h : if r ≤ b.1 then c = b else (c.1 = r - 1 ∧ b.1 < r)) : ∀ j, if r ≤ (bsJ al n m s i j b).1 then bsJ al n m s i j c = bsJ al n m s i j b else ((bsJ al n m s i j c).1 = r - 1 ∧ (bsJ al n m s i j b).1 < r ∧ bsJ al n m s i j c = c) := by
  intro j
  induction j with
  | zero =>
    show if r ≤ b.1 then c = b else (c.1 = r - 1 ∧ b.1 < r ∧ c = c)
    split at h
    · rename_i h1; rw [if_pos h1]; exact h
    · rename_i h1; rw [if_neg h1]; exact ⟨h.1, h.2, rfl⟩
  | succ j ih =>
    rw [bsJ_S, bsJ_S]
    by_cases h1 : r ≤ (bsJ al n m s i j b).1
    · rw [if_pos h1] at ih
      rw [ih]
      split <;> rename_i h2
      · rw [if_pos (by show r ≤ rn al n m s i j; omega)]
      · rfl
    · rw [if_neg h1] at ih
      obtain ⟨i1, i2, i3⟩ := ih
      by_cases h2 : r ≤ rn al n m s i j
      · rw [if_pos (show (bsJ al n m s i j b).1 < rn al n m s i j by omega), if_pos (show (bsJ al n m s i j c).1 < rn al n m s i j by omega), if_pos (by exact h2)]
      · rw [if_neg (show ¬ (bsJ al n m s i j c).1 < rn al n m s i j by omega)]
        split <;> rename_i h3
        · exact ⟨i1, by show rn al n m s i j < r; omega, i3⟩
        · exact ⟨i1, i2, i3⟩
end MP
