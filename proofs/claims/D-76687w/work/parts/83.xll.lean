set_option maxRecDepth 100000
/-! linked lists: their nodes in roles from 100 on -/
abbrev Nd : Type := Nat × Nat × Nat
def nG (N : List Nd) (j : Nat) : Nd := N.getD j (0, 0, 0)
def nR (N : List Nd) (j : Nat) : Nat := (nG N j).1
def nA (N : List Nd) (j : Nat) : Nat := (nG N j).2.1
def nT (N : List Nd) (j : Nat) : Nat := (nG N j).2.2
def nxO (N : List Nd) (j : Nat) : Option Nat := if j + 1 < N.length then some (nA N (j + 1)) else none
def pvO (N : List Nd) (j : Nat) : Option Nat := if j = 0 then none else some (nA N (j - 1))
def hdO (N : List Nd) : Option Nat := if 0 < N.length then some (nA N 0) else none
def tlO (N : List Nd) : Option Nat := if 0 < N.length then some (nA N (N.length - 1)) else none
abbrev ndE (t : Nat) (nx pv : Option Nat) : va_E := oB 28 [.ref t, va_rf nx, va_rf pv]
abbrev llE (mo : Int) (N : List Nd) : va_E := oB 27 [.int (zI mo), .int (zI (N.length : Int)), va_rf (hdO N), va_rf (tlO N)]
def llN (V : gV) (B : Nat) (N : List Nd) : Prop := 100 ≤ B ∧ (∀ j, j < N.length → 100 ≤ nR N j ∧ nR N j < B) ∧ (∀ i j, i < N.length → j < N.length → i ≠ j → nR N i ≠ nR N j) ∧ ∀ j, j < N.length → V (nR N j) = some (nA N j, ndE (nT N j) (nxO N j) (pvO N j))
def vx100 (V U : gV) : Prop := ∀ r, r < 100 → U r = V r
theorem vx100.rf {V : gV} : vx100 V V := fun _ _ => rfl
theorem vx100.tr {V U W : gV} (h : vx100 V U) (k : vx100 U W) : vx100 V W := fun r hr => (k r hr).trans (h r hr)
theorem vx100.up {V U : gV} (h : vx100 V U) {j : Nat} {x : Option (Nat × va_E)} (hj : 100 ≤ j) : vx100 V (va_up U j x) := fun r hr => (va_up_ne _ _ (by omega)).trans (h r hr)
theorem llN.nil {V : gV} : llN V 100 [] := ⟨Nat.le_refl _, fun j hj => absurd hj (Nat.not_lt_zero j), fun i j hi => absurd hi (Nat.not_lt_zero i), fun j hj => absurd hj (Nat.not_lt_zero j)⟩
def insN (N : List Nd) (i : Nat) (x : Nd) : List Nd := N.take i ++ x :: N.drop i
theorem insN_len {N : List Nd} {i : Nat} {x : Nd} (h : i ≤ N.length) : (insN N i x).length = N.length + 1 := by
  unfold insN; rw [List.length_append, List.length_cons, List.length_take, List.length_drop]; omega
theorem insN_get {N : List Nd} {i : Nat} {x : Nd} (h : i ≤ N.length) (j : Nat) : nG (insN N i x) j = if j < i then nG N j else if j = i then x else nG N (j - 1) := by
  unfold nG insN
  rw [List.getD_eq_getElem?_getD, List.getElem?_append, List.length_take, show min i N.length = i by omega]
  by_cases hj : j < i
  · rw [if_pos hj, if_pos hj, List.getElem?_take, if_pos hj, List.getD_eq_getElem?_getD]
  · rw [if_neg hj, if_neg hj]
    by_cases hji : j = i
    · subst hji; rw [if_pos rfl, Nat.sub_self]; rfl
    · rw [if_neg hji]
      obtain ⟨d, hd⟩ : ∃ d, j - i = d + 1 := ⟨j - i - 1, by omega⟩
      rw [hd, List.getElem?_cons_succ, List.getElem?_drop, List.getD_eq_getElem?_getD, show i + d = j - 1 by omega]
theorem llN.ins {V U : gV} {B a t i : Nat} {N : List Nd} (h : llN V B N) (hi : i ≤ N.length) (hU : U B = some (a, ndE t (if i < N.length then some (nA N i) else none) (pvO N i))) (hL : 0 < i → U (nR N (i - 1)) = some (nA N (i - 1), ndE (nT N (i - 1)) (some a) (pvO N (i - 1)))) (hR : i < N.length → U (nR N i) = some (nA N i, ndE (nT N i) (nxO N i) (some a))) (hO : ∀ r, r ≠ B → (0 < i → r ≠ nR N (i - 1)) → (i < N.length → r ≠ nR N i) → U r = V r) : llN U (B + 1) (insN N i (B, a, t)) := by
  obtain ⟨h1, h2, h3, h4⟩ := h
  have len := insN_len (x := (B, a, t)) hi
  have g := insN_get (x := (B, a, t)) hi
  have gl : ∀ j, j < i → nG (insN N i (B, a, t)) j = nG N j := fun j hj => by rw [g, if_pos hj]
  have gi : nG (insN N i (B, a, t)) i = (B, a, t) := by rw [g, if_neg (Nat.lt_irrefl _), if_pos rfl]
  have gr : ∀ j, i < j → nG (insN N i (B, a, t)) j = nG N (j - 1) := fun j hj => by rw [g, if_neg (by omega), if_neg (by omega)]
  have rl : ∀ j, j < i → nR (insN N i (B, a, t)) j = nR N j ∧ nA (insN N i (B, a, t)) j = nA N j ∧ nT (insN N i (B, a, t)) j = nT N j := fun j hj => by unfold nR nA nT; rw [gl j hj]; exact ⟨rfl, rfl, rfl⟩
  have ri : nR (insN N i (B, a, t)) i = B ∧ nA (insN N i (B, a, t)) i = a ∧ nT (insN N i (B, a, t)) i = t := by unfold nR nA nT; rw [gi]; exact ⟨rfl, rfl, rfl⟩
  have rr : ∀ j, i < j → nR (insN N i (B, a, t)) j = nR N (j - 1) ∧ nA (insN N i (B, a, t)) j = nA N (j - 1) ∧ nT (insN N i (B, a, t)) j = nT N (j - 1) := fun j hj => by unfold nR nA nT; rw [gr j hj]; exact ⟨rfl, rfl, rfl⟩
  have rB : ∀ j, j < N.length + 1 → 100 ≤ nR (insN N i (B, a, t)) j ∧ nR (insN N i (B, a, t)) j < B + 1 := fun j hj => by
    rcases Nat.lt_trichotomy j i with q | q | q
    · rw [(rl j q).1]; have := h2 j (by omega); omega
    · subst q; rw [ri.1]; omega
    · rw [(rr j q).1]; have := h2 (j - 1) (by omega); omega
  refine ⟨by omega, fun j hj => rB j (by omega), fun x y hx hy hxy => ?_, fun j hj => ?_⟩
  · have hx : x < N.length + 1 := by omega
    have hy : y < N.length + 1 := by omega
    rcases Nat.lt_trichotomy x i with q | q | q <;> rcases Nat.lt_trichotomy y i with r | r | r
    · rw [(rl x q).1, (rl y r).1]; exact h3 x y (by omega) (by omega) hxy
    · subst r; rw [(rl x q).1, ri.1]; have := h2 x (by omega); omega
    · rw [(rl x q).1, (rr y r).1]; exact h3 x (y - 1) (by omega) (by omega) (by omega)
    · subst q; rw [(rl y r).1, ri.1]; have := h2 y (by omega); omega
    · omega
    · subst q; rw [(rr y r).1, ri.1]; have := h2 (y - 1) (by omega); omega
    · rw [(rr x q).1, (rl y r).1]; exact h3 (x - 1) y (by omega) (by omega) (by omega)
    · subst r; rw [(rr x q).1, ri.1]; have := h2 (x - 1) (by omega); omega
    · rw [(rr x q).1, (rr y r).1]; exact h3 (x - 1) (y - 1) (by omega) (by omega) (by omega)
  · have hj : j < N.length + 1 := by omega
    rcases Nat.lt_trichotomy j i with q | q | q
    · rw [(rl j q).1, (rl j q).2.1, (rl j q).2.2]
      have ep : pvO (insN N i (B, a, t)) j = pvO N j := by
        unfold pvO
        by_cases e0 : j = 0
        · rw [if_pos e0, if_pos e0]
        · rw [if_neg e0, if_neg e0, (rl (j - 1) (by omega)).2.1]
      rw [ep]
      have hj2 := h2 j (by omega)
      by_cases e1 : j + 1 = i
      · have en : nxO (insN N i (B, a, t)) j = some a := by unfold nxO; rw [if_pos (by omega), e1, ri.2.1]
        rw [en]
        have ej : j = i - 1 := by omega
        subst ej
        exact hL (by omega)
      · have en : nxO (insN N i (B, a, t)) j = nxO N j := by unfold nxO; rw [if_pos (by omega), if_pos (by omega), (rl (j + 1) (by omega)).2.1]
        rw [en, hO _ (by omega) (fun _ => h3 j (i - 1) (by omega) (by omega) (by omega)) (fun q => h3 j i (by omega) q (by omega))]
        exact h4 j (by omega)
    · subst q
      rw [ri.1, ri.2.1, ri.2.2]
      have en : nxO (insN N j (B, a, t)) j = if j < N.length then some (nA N j) else none := by
        unfold nxO
        by_cases e : j < N.length
        · rw [if_pos (by omega), if_pos e, (rr (j + 1) (by omega)).2.1, Nat.add_sub_cancel]
        · rw [if_neg (by omega), if_neg e]
      have ep : pvO (insN N j (B, a, t)) j = pvO N j := by
        unfold pvO
        by_cases e0 : j = 0
        · rw [if_pos e0, if_pos e0]
        · rw [if_neg e0, if_neg e0, (rl (j - 1) (by omega)).2.1]
      rw [en, ep]; exact hU
    · rw [(rr j q).1, (rr j q).2.1, (rr j q).2.2]
      have hj2 := h2 (j - 1) (by omega)
      have en : nxO (insN N i (B, a, t)) j = nxO N (j - 1) := by
        unfold nxO
        by_cases e : j + 1 < N.length + 1
        · rw [if_pos (by omega), if_pos (by omega), (rr (j + 1) (by omega)).2.1, show j + 1 - 1 = j - 1 + 1 by omega]
        · rw [if_neg (by omega), if_neg (by omega)]
      rw [en]
      by_cases e1 : j = i + 1
      · subst e1
        have ep : pvO (insN N i (B, a, t)) (i + 1) = some a := by unfold pvO; rw [if_neg (by omega), Nat.add_sub_cancel, ri.2.1]
        rw [ep, Nat.add_sub_cancel]
        exact hR (by omega)
      · have ep : pvO (insN N i (B, a, t)) j = pvO N (j - 1) := by unfold pvO; rw [if_neg (by omega), if_neg (by omega), (rr (j - 1) (by omega)).2.1]
        rw [ep, hO _ (by omega) (fun q => h3 (j - 1) (i - 1) (by omega) (by omega) (by omega)) (fun q => h3 (j - 1) i (by omega) q (by omega))]
        exact h4 (j - 1) (by omega)
theorem rmN_get {N : List Nd} {i : Nat} (j : Nat) : nG (N.eraseIdx i) j = if j < i then nG N j else nG N (j + 1) := by
  unfold nG
  rw [List.getD_eq_getElem?_getD, List.getElem?_eraseIdx]
  split <;> rw [List.getD_eq_getElem?_getD]
theorem llN.rem {V U : gV} {B i : Nat} {N : List Nd} (h : llN V B N) (hi : i < N.length) (hL : 0 < i → U (nR N (i - 1)) = some (nA N (i - 1), ndE (nT N (i - 1)) (nxO N i) (pvO N (i - 1)))) (hR : i + 1 < N.length → U (nR N (i + 1)) = some (nA N (i + 1), ndE (nT N (i + 1)) (nxO N (i + 1)) (pvO N i))) (hO : ∀ r, r ≠ nR N i → (0 < i → r ≠ nR N (i - 1)) → (i + 1 < N.length → r ≠ nR N (i + 1)) → U r = V r) : llN U B (N.eraseIdx i) := by
  obtain ⟨h1, h2, h3, h4⟩ := h
  have len : (N.eraseIdx i).length = N.length - 1 := List.length_eraseIdx_of_lt hi
  have g := rmN_get (N := N) (i := i)
  have rl : ∀ j, j < i → nR (N.eraseIdx i) j = nR N j ∧ nA (N.eraseIdx i) j = nA N j ∧ nT (N.eraseIdx i) j = nT N j := fun j hj => by unfold nR nA nT; rw [g, if_pos hj]; exact ⟨rfl, rfl, rfl⟩
  have rr : ∀ j, i ≤ j → nR (N.eraseIdx i) j = nR N (j + 1) ∧ nA (N.eraseIdx i) j = nA N (j + 1) ∧ nT (N.eraseIdx i) j = nT N (j + 1) := fun j hj => by unfold nR nA nT; rw [g, if_neg (by omega)]; exact ⟨rfl, rfl, rfl⟩
  refine ⟨h1, fun j hj => ?_, fun x y hx hy hxy => ?_, fun j hj => ?_⟩
  · rcases Nat.lt_or_ge j i with q | q
    · rw [(rl j q).1]; exact h2 j (by omega)
    · rw [(rr j q).1]; exact h2 (j + 1) (by omega)
  · rcases Nat.lt_or_ge x i with q | q <;> rcases Nat.lt_or_ge y i with r | r
    · rw [(rl x q).1, (rl y r).1]; exact h3 x y (by omega) (by omega) hxy
    · rw [(rl x q).1, (rr y r).1]; exact h3 x (y + 1) (by omega) (by omega) (by omega)
    · rw [(rr x q).1, (rl y r).1]; exact h3 (x + 1) y (by omega) (by omega) (by omega)
    · rw [(rr x q).1, (rr y r).1]; exact h3 (x + 1) (y + 1) (by omega) (by omega) (by omega)
  · rcases Nat.lt_or_ge j i with q | q
    · rw [(rl j q).1, (rl j q).2.1, (rl j q).2.2]
      have ep : pvO (N.eraseIdx i) j = pvO N j := by
        unfold pvO
        by_cases e0 : j = 0
        · rw [if_pos e0, if_pos e0]
        · rw [if_neg e0, if_neg e0, (rl (j - 1) (by omega)).2.1]
      rw [ep]
      by_cases e1 : j + 1 = i
      · have en : nxO (N.eraseIdx i) j = nxO N i := by
          unfold nxO
          by_cases e2 : i + 1 < N.length
          · rw [if_pos (by omega), if_pos e2, e1, (rr i (Nat.le_refl _)).2.1]
          · rw [if_neg (by omega), if_neg e2]
        rw [en]
        have ej : j = i - 1 := by omega
        subst ej
        exact hL (by omega)
      · have en : nxO (N.eraseIdx i) j = nxO N j := by unfold nxO; rw [if_pos (by omega), if_pos (by omega), (rl (j + 1) (by omega)).2.1]
        rw [en, hO _ (h3 j i (by omega) hi (by omega)) (fun _ => h3 j (i - 1) (by omega) (by omega) (by omega)) (fun q => h3 j (i + 1) (by omega) q (by omega))]
        exact h4 j (by omega)
    · rw [(rr j q).1, (rr j q).2.1, (rr j q).2.2]
      have en : nxO (N.eraseIdx i) j = nxO N (j + 1) := by
        unfold nxO
        by_cases e : j + 1 + 1 < N.length
        · rw [if_pos (by omega), if_pos e, (rr (j + 1) (by omega)).2.1]
        · rw [if_neg (by omega), if_neg e]
      rw [en]
      by_cases e1 : j = i
      · subst e1
        have ep : pvO (N.eraseIdx j) j = pvO N j := by
          unfold pvO
          by_cases e0 : j = 0
          · rw [if_pos e0, if_pos e0]
          · rw [if_neg e0, if_neg e0, (rl (j - 1) (by omega)).2.1]
        rw [ep]
        exact hR (by omega)
      · have ep : pvO (N.eraseIdx i) j = pvO N (j + 1) := by unfold pvO; rw [if_neg (by omega), if_neg (by omega), (rr (j - 1) (by omega)).2.1, show j - 1 + 1 = j + 1 - 1 by omega]
        rw [ep, hO _ (h3 (j + 1) i (by omega) hi (by omega)) (fun _ => h3 (j + 1) (i - 1) (by omega) (by omega) (by omega)) (fun q => h3 (j + 1) (i + 1) (by omega) q (by omega))]
        exact h4 (j + 1) (by omega)
theorem llN.put {V U : gV} {B i t : Nat} {N : List Nd} (h : llN V B N) (hi : i < N.length) (hU : U (nR N i) = some (nA N i, ndE t (nxO N i) (pvO N i))) (hO : ∀ r, r ≠ nR N i → U r = V r) : llN U B (N.set i (nR N i, nA N i, t)) := by
  obtain ⟨h1, h2, h3, h4⟩ := h
  have len : (N.set i (nR N i, nA N i, t)).length = N.length := List.length_set
  have g : ∀ j, nG (N.set i (nR N i, nA N i, t)) j = if j = i then (nR N i, nA N i, t) else nG N j := fun j => by
    unfold nG
    rw [List.getD_eq_getElem?_getD, List.getElem?_set]
    by_cases e : j = i
    · subst e; rw [if_pos rfl, if_pos hi, if_pos rfl]; rfl
    · rw [if_neg (fun q => e q.symm), if_neg e, List.getD_eq_getElem?_getD]
  have rA : ∀ j, nR (N.set i (nR N i, nA N i, t)) j = nR N j ∧ nA (N.set i (nR N i, nA N i, t)) j = nA N j := fun j => by
    have e1 : nR (N.set i (nR N i, nA N i, t)) j = (nG (N.set i (nR N i, nA N i, t)) j).1 := rfl
    have e2 : nA (N.set i (nR N i, nA N i, t)) j = (nG (N.set i (nR N i, nA N i, t)) j).2.1 := rfl
    rw [e1, e2, g]
    by_cases e : j = i
    · subst e; rw [if_pos rfl]; exact ⟨rfl, rfl⟩
    · rw [if_neg e]; exact ⟨rfl, rfl⟩
  have en : ∀ j, nxO (N.set i (nR N i, nA N i, t)) j = nxO N j := fun j => by unfold nxO; rw [len, (rA (j + 1)).2]
  have ep : ∀ j, pvO (N.set i (nR N i, nA N i, t)) j = pvO N j := fun j => by unfold pvO; rw [(rA (j - 1)).2]
  refine ⟨h1, fun j hj => by rw [(rA j).1]; exact h2 j (by omega), fun x y hx hy hxy => by rw [(rA x).1, (rA y).1]; exact h3 x y (by omega) (by omega) hxy, fun j hj => ?_⟩
  have et : nT (N.set i (nR N i, nA N i, t)) j = if j = i then t else nT N j := by
    show (nG (N.set i (nR N i, nA N i, t)) j).2.2 = _
    rw [g]
    by_cases e : j = i
    · rw [if_pos e, if_pos e]
    · rw [if_neg e, if_neg e]; rfl
  rw [(rA j).1, (rA j).2, en, ep, et]
  by_cases e : j = i
  · subst e; rw [if_pos rfl]; exact hU
  · rw [if_neg e, hO _ (h3 j i (by omega) hi e)]; exact h4 j (by omega)
theorem llN.cg {V U : gV} {B : Nat} {N : List Nd} (h : llN V B N) (e : ∀ r, 100 ≤ r → U r = V r) : llN U B N := ⟨h.1, h.2.1, h.2.2.1, fun j hj => (e _ (h.2.1 j hj).1).trans (h.2.2.2 j hj)⟩

