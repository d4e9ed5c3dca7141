set_option maxRecDepth 100000
/-! a thread, found breadth first: done D, to do L -/
theorem nodup_len : ∀ (n : Nat) (L : List Nat), L.Nodup → (∀ x ∈ L, x < n) → L.length ≤ n := by
  intro n
  induction n with
  | zero =>
    intro L _ h
    cases L with
    | nil => exact Nat.le_refl _
    | cons x t => have := h x List.mem_cons_self; omega
  | succ n ih =>
    intro L hn h
    by_cases hm : n ∈ L
    · have h1 := ih (L.erase n) (hn.erase n) (fun x hx => by
        have h2 := (List.Nodup.mem_erase_iff hn).mp hx
        have := h x h2.2
        have := h2.1
        omega)
      rw [List.length_erase_of_mem hm] at h1
      omega
    · have := ih L hn (fun x hx => by have := h x hx; have : x ≠ n := fun e => hm (e ▸ hx); omega)
      omega
def thI (w : aW) (m : Nat) (D L : List Nat) : Prop := (D ++ L).Nodup ∧ (∀ x ∈ D ++ L, x < wM w ∧ m ≤ x ∧ (x = m ∨ ∃ u ∈ D, rAns (wRk w x) = some u)) ∧ m ∈ D ++ L ∧ ∀ x u, x < wM w → rAns (wRk w x) = some u → u ∈ D → x ∈ D ++ L
def thJ (w : aW) (m : Nat) (D L : List Nat) (one k : Nat) : Prop := (D ++ L).Nodup ∧ (∀ x ∈ D ++ L, x < wM w ∧ m ≤ x ∧ (x = m ∨ ∃ u ∈ D, rAns (wRk w x) = some u ∧ (u = one → x < k))) ∧ m ∈ D ++ L ∧ (∀ x u, x < wM w → rAns (wRk w x) = some u → u ∈ D → u ≠ one → x ∈ D ++ L) ∧ (∀ x, x < k → x < wM w → rAns (wRk w x) = some one → x ∈ D ++ L) ∧ one ∈ D ∧ one < k
theorem thI_start {w : aW} {m : Nat} (hm : m < wM w) : thI w m [] [m] := ⟨List.nodup_cons.mpr ⟨List.not_mem_nil, List.nodup_nil⟩, fun x hx => by cases List.mem_singleton.mp hx; exact ⟨hm, Nat.le_refl _, Or.inl rfl⟩, List.mem_singleton.mpr rfl, fun x u _ _ h => by cases h⟩
theorem thI_pop {w : aW} {m one : Nat} {D L : List Nat} (hK : wOK w) (h : thI w m D (one :: L)) : thJ w m (D ++ [one]) L one (one + 1) := by
  obtain ⟨h1, h2, h3, h4⟩ := h
  have e : D ++ [one] ++ L = D ++ one :: L := by rw [List.append_assoc]; rfl
  have ho : one ∉ D := fun q => by
    have := List.nodup_append.mp h1
    exact this.2.2 one q one List.mem_cons_self rfl
  unfold thJ
  rw [e]
  refine ⟨h1, fun x hx => ?_, h3, fun x u hx hu hud hne => ?_, fun x hk hx hu => ?_, List.mem_append_right _ (List.mem_singleton.mpr rfl), Nat.lt_succ_self _⟩
  · obtain ⟨g1, g2, g3⟩ := h2 x hx
    refine ⟨g1, g2, g3.elim Or.inl fun ⟨u, hu, hr⟩ => Or.inr ⟨u, List.mem_append_left _ hu, hr, fun q => absurd (q ▸ hu) ho⟩⟩
  · rcases List.mem_append.mp hud with q | q
    · exact h4 x u hx hu q
    · exact absurd (List.mem_singleton.mp q) hne
  · have := hK.ra hx hu; omega
theorem thJ_no {w : aW} {m one k : Nat} {D L : List Nat} (h : thJ w m D L one k) (hn : rAns (wRk w k) ≠ some one) : thJ w m D L one (k + 1) := by
  obtain ⟨h1, h2, h3, h4, h5, h6, h7⟩ := h
  refine ⟨h1, fun x hx => ?_, h3, h4, fun x hk hx hu => ?_, h6, by omega⟩
  · obtain ⟨g1, g2, g3⟩ := h2 x hx
    exact ⟨g1, g2, g3.elim Or.inl fun ⟨u, hu, hr, hq⟩ => Or.inr ⟨u, hu, hr, fun q => by have := hq q; omega⟩⟩
  · by_cases e : x = k
    · subst e; exact absurd hu hn
    · exact h5 x (by omega) hx hu
theorem thJ_new {w : aW} {m one k : Nat} {D L : List Nat} (h : thJ w m D L one k) (hy : rAns (wRk w k) = some one) : k ∉ D ++ L := by
  obtain ⟨h1, h2, h3, h4, h5, h6, h7⟩ := h
  intro hk
  obtain ⟨g1, g2, g3⟩ := h2 k hk
  obtain ⟨-, p2, -⟩ := h2 one (List.mem_append_left _ h6)
  rcases g3 with q | ⟨u, hu, hr, hq⟩
  · omega
  · cases hy.symm.trans hr
    have := hq rfl
    omega
theorem thJ_yes {w : aW} {m one k : Nat} {D L : List Nat} (h : thJ w m D L one k) (hk : k < wM w) (hy : rAns (wRk w k) = some one) : thJ w m D (L ++ [k]) one (k + 1) := by
  have hnew := thJ_new h hy
  obtain ⟨h1, h2, h3, h4, h5, h6, h7⟩ := h
  have e : D ++ (L ++ [k]) = D ++ L ++ [k] := (List.append_assoc _ _ _).symm
  unfold thJ
  rw [e]
  refine ⟨List.nodup_append.mpr ⟨h1, List.nodup_cons.mpr ⟨List.not_mem_nil, List.nodup_nil⟩, fun a ha b hb hab => by cases List.mem_singleton.mp hb; subst hab; exact hnew ha⟩, fun x hx => ?_, List.mem_append_left _ h3, fun x u a b c d => List.mem_append_left _ (h4 x u a b c d), fun x hkx hx hu => ?_, h6, by omega⟩
  · rcases List.mem_append.mp hx with q | q
    · obtain ⟨g1, g2, g3⟩ := h2 x q
      exact ⟨g1, g2, g3.elim Or.inl fun ⟨u, hu, hr, hq⟩ => Or.inr ⟨u, hu, hr, fun q => by have := hq q; omega⟩⟩
    · cases List.mem_singleton.mp q
      obtain ⟨-, p2, -⟩ := h2 one (List.mem_append_left _ h6)
      exact ⟨hk, by omega, Or.inr ⟨one, h6, hy, fun _ => Nat.lt_succ_self _⟩⟩
  · by_cases e : x = k
    · subst e; exact List.mem_append_right _ (List.mem_singleton.mpr rfl)
    · exact List.mem_append_left _ (h5 x (by omega) hx hu)
theorem thJ_end {w : aW} {m one k : Nat} {D L : List Nat} (h : thJ w m D L one k) (hk : wM w ≤ k) : thI w m D L := by
  obtain ⟨h1, h2, h3, h4, h5, h6, h7⟩ := h
  refine ⟨h1, fun x hx => ?_, h3, fun x u hx hu hud => ?_⟩
  · obtain ⟨g1, g2, g3⟩ := h2 x hx
    exact ⟨g1, g2, g3.elim Or.inl fun ⟨u, hu, hr, _⟩ => Or.inr ⟨u, hu, hr⟩⟩
  · by_cases e : u = one
    · subst e; exact h5 x (by omega) hx hu
    · exact h4 x u hx hu hud e
theorem thI_len {w : aW} {m : Nat} {D L : List Nat} (hK : wOK w) (h : thI w m D L) : D.length + L.length ≤ 16 := by
  have h9 := nodup_len (wM w) _ h.1 (fun x hx => (h.2.1 x hx).1)
  rw [List.length_append] at h9
  have := hK.m
  omega
theorem thJ_len {w : aW} {m one k : Nat} {D L : List Nat} (hK : wOK w) (h : thJ w m D L one k) : D.length + L.length ≤ 16 := by
  have h9 := nodup_len (wM w) _ h.1 (fun x hx => (h.2.1 x hx).1)
  rw [List.length_append] at h9
  have := hK.m
  omega
theorem aIn_O {w : aW} (k : wOK w) {m x : Nat} (hm : x < wM w) : aIn w m x = inO w m (rAns (wRk w x)) := inF_O k hm
/-- whether one is in a thread -/
def thP (w : aW) (m x : Nat) : Bool := decide (x < wM w) && (decide (x = m) || aIn w m x)
theorem thI_done {w : aW} {m : Nat} {D : List Nat} (hK : wOK w) (h : thI w m D []) (x : Nat) : x ∈ D ↔ thP w m x = true := by
  obtain ⟨h1, h2, h3, h4⟩ := h
  rw [List.append_nil] at h2 h3 h4
  unfold thP
  induction x using Nat.strongRecOn with
  | _ x ih =>
    constructor
    · intro hx
      obtain ⟨g1, g2, g3⟩ := h2 x hx
      rw [decide_eq_true g1, Bool.true_and]
      rcases g3 with rfl | ⟨u, hu, hr⟩
      · rw [decide_eq_true rfl]; rfl
      · have hux := hK.ra g1 hr
        have := (ih u hux).mp hu
        rw [aIn_O hK g1, hr]
        show (_ || (decide (u = m) || inF w m (u + 1) u)) = true
        have h9 : (decide (u < wM w) && (decide (u = m) || aIn w m u)) = true := this
        rw [Bool.and_eq_true] at h9
        have h10 : (decide (u = m) || inF w m (u + 1) u) = true := h9.2
        rw [h10, Bool.or_true]
    · intro hx
      rw [Bool.and_eq_true] at hx
      have g1 := of_decide_eq_true hx.1
      rcases Bool.or_eq_true_iff.mp hx.2 with q | q
      · have := of_decide_eq_true q; subst this; exact h3
      · rw [aIn_O hK g1] at q
        cases hr : rAns (wRk w x) with
        | none => rw [hr] at q; cases q
        | some u =>
          rw [hr] at q
          have hux := hK.ra g1 hr
          have q : (decide (u = m) || inF w m (u + 1) u) = true := q
          have : u ∈ D := (ih u hux).mpr (by rw [decide_eq_true (show u < wM w by omega), Bool.true_and]; exact q)
          exact h4 x u g1 hr this
