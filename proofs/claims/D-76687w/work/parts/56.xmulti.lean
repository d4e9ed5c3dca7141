/-! A TABLE: an array of arrays of ints, its rows behind it -/
set_option maxRecDepth 100000
def tbR (X : gX) (a n k : Nat) (g : Nat → Nat → Int32) : va_W := (List.range n).map (fun i => (a + 1 + i, aI (gT X 0) k (g i)))
abbrev tbO (X : gX) (a n : Nat) : va_E := aR (gT X 11) n (fun i => if i < n then some (a + 1 + i) else none)
theorem tbR_at {X : gX} {a n k i : Nat} {g : Nat → Nat → Int32} {Z : va_W} (hi : i < n) : (tbR X a n k g ++ Z)[i]? = some (a + 1 + i, aI (gT X 0) k (g i)) := by
  rw [List.getElem?_append_left (by unfold tbR; rw [List.length_map, List.length_range]; exact hi)]
  unfold tbR
  rw [List.getElem?_map, List.getElem?_range hi]
  rfl
theorem tbR_set {X : gX} {a n k i : Nat} {g : Nat → Nat → Int32} {Z : va_W} (hi : i < n) (f : Nat → Int32) : (tbR X a n k g ++ Z).set i (a + 1 + i, aI (gT X 0) k f) = tbR X a n k (va_up g i f) ++ Z := by
  have hl : ∀ g, (tbR X a n k g).length = n := fun g => by unfold tbR; rw [List.length_map, List.length_range]
  refine List.ext_getElem? fun j => ?_
  by_cases hji : j = i
  · subst hji
    rw [List.getElem?_set_self (by rw [List.length_append, hl]; omega), tbR_at hi, va_up_self]
  · rw [List.getElem?_set_ne (Ne.symm hji)]
    rcases Nat.lt_or_ge j n with hj | hj
    · rw [tbR_at hj, tbR_at hj, va_up_ne _ _ hji]
    · rw [List.getElem?_append_right (by rw [hl]; exact hj), List.getElem?_append_right (by rw [hl]; exact hj), hl, hl]
section G9
variable {p : Program} {l : Launch} {e : Env} {R : Room} {s : State} {m : MethodId} {args : Array Value} {below : List Frame} {meth : Method} {c : Code} {H : Heap} {locs : List Loc} {cells slots : Nat} {Q : State → Prop}
variable {cc : ByteArray} {pc : Nat} {ls : Array Slot} {rest : List Value} {X : gX} {F : gF} {V : gV} {ws : va_W} {a : Nat}
theorem gW.perm {ws' : va_W} (h : gW X F V ws s H locs) (hp : ws'.Perm ws) : gW X F V ws' s H locs := ⟨h.1, h.2.1.mem hp, h.2.2⟩
theorem gW.dropN : ∀ (rs : va_W), gW X F V (rs ++ ws) s H locs → gW X F V ws s H locs
  | [], h => h
  | q :: rs, h => gW.dropN rs (h.drop 0 rfl rfl)
/-- the part of a heap below n -/
def hCut (H : Heap) (n : Nat) : Heap := H.extract 0 n
theorem hCut_size {H : Heap} {n : Nat} (h : n ≤ H.size) : (hCut H n).size = n := by unfold hCut; simp; omega
theorem hCut_at {H : Heap} {n q : Nat} (hq : q < n) (h : n ≤ H.size) : (hCut H n)[q]? = H[q]? := by
  unfold hCut
  rw [Array.getElem?_extract_of_lt (by omega), Array.getElem?_eq_getElem (show q < H.size by omega)]
  simp
theorem tb_push {H1 : Heap} {h0 k : Nat} (hG : gW X F V ws s H locs) (hh : H.size = h0) {n : Nat} (hz : H1.size = h0 + 1 + n) (ho : ∀ q : Nat, q < h0 → H1[q]? = H[q]?) {e0 : va_E} (he : va_at X.1 gCL (h0, e0) H1) (hi : ∀ i, i < n → va_at X.1 gCL (h0 + 1 + i, aI (gT X 0) k (fun _ => 0)) H1) :
    ∀ j, j ≤ n → gW X F V ((tbR X h0 j k (fun _ _ => 0)).reverse ++ ((h0, e0) :: ws)) s (hCut H1 (h0 + 1 + j)) locs := by
  intro j
  induction j with
  | zero =>
    intro _
    refine hG.push hh ?_ ?_ ?_
    · exact he.kept (hCut_at (Nat.lt_succ_self _) (by omega))
    · rw [hCut_size (by omega)]; omega
    · intro q hq; rw [hCut_at (by omega) (by omega)]; exact ho q hq
  | succ j ih =>
    intro hj
    have h1 := ih (by omega)
    have e : tbR X h0 (j + 1) k (fun _ _ => 0) = tbR X h0 j k (fun _ _ => 0) ++ [(h0 + 1 + j, aI (gT X 0) k (fun _ => 0))] := by
      unfold tbR; rw [List.range_succ, List.map_append]; rfl
    rw [e, List.reverse_append]
    refine h1.push (hCut_size (by omega)) ?_ ?_ ?_
    · exact (hi j (by omega)).kept (hCut_at (by omega) (by omega))
    · rw [hCut_size (by omega), hCut_size (by omega)]; omega
    · intro q hq; rw [hCut_at (by omega) (by omega), hCut_at (by omega) (by omega)]
theorem outer_arrV (cA : ClassId) (N h0 : Nat) : Jvm.Free.Multi.outerC cA N h0 N = arrV cA N (fun j => va_rf (if j < N then some (h0 + 1 + j) else none)) := by
  obtain ⟨f1, f2, f3⟩ := Jvm.Free.Multi.outerC_facts cA N h0 N
  have f4 : ∀ i, (Jvm.Free.Multi.outerC cA N h0 i).monitor = {} ∧ (Jvm.Free.Multi.outerC cA N h0 i).hash = none := by
    intro i
    induction i with
    | zero => exact ⟨rfl, rfl⟩
    | succ i ih => exact ⟨by simp [Jvm.Free.Multi.outerC, Cell.setSlot, ih.1], by simp [Jvm.Free.Multi.outerC, Cell.setSlot, ih.2]⟩
  have f5 : (Jvm.Free.Multi.outerC cA N h0 N).slots = (arrV cA N (fun j => va_rf (if j < N then some (h0 + 1 + j) else none))).slots := by
    refine Array.ext_getElem? fun j => ?_
    rcases Nat.lt_or_ge j N with hj | hj
    · rw [Jvm.Free.Multi.outerC_slot cA N h0 N j hj, arrV_read _ _ hj, if_pos hj, if_pos hj]; rfl
    · rw [Array.getElem?_eq_none (by omega), Array.getElem?_eq_none (by rw [arrV_size]; omega)]
  obtain ⟨g1, g2⟩ := f4 N
  cases hc : Jvm.Free.Multi.outerC cA N h0 N with
  | mk cls slots mon hash vm =>
    rw [hc] at f1 f2 f5 g1 g2
    dsimp only at f1 f2 f5 g1 g2
    subst f1; subst f2; subst f5; subst g1; subst g2
    rfl
/-- a table of n rows of k numbers is made -/
theorem g_multi (hx : p.tables.exec = Jvm.exec) (hb : c.code = cc) {own : String} {index : Nat} (hts : ∀ w ∈ lw_all, w.before args s = true) (hown : s.vm.findClass own = some m.cls) (hcl : (Cond.classLink own index ("[" ++ (FieldType.array .int).toString)).before args s = true) (harr : (Cond.arrayClass .int).before args s = true) (hG : gW X F V ws s H locs) {z1 z2 : Int} (n k : Nat) (hz : z1 = (n : Int) ∧ z2 = (k : Int) ∧ n < 1000 ∧ k < 1000) (hr : cells + (1 + n) ≤ R.cells ∧ slots + (n + n * k) ≤ R.slots) (d : decode cc pc = .ok (.multianewarray index 2, 4))
    (kk : ∀ (q : Nat) (H1 : Heap), gW X F V ((q, tbO X q n) :: (tbR X q n k (fun _ _ => 0) ++ ws)) s H1 locs → W p l e R s m args below meth c H1 locs (cells + 1 + n) (slots + n + n * k) Q (F0 m (pc + 4) ls (.ref q :: rest))) : W p l e R s m args below meth c H locs cells slots Q (F0 m pc ls (.int (zI z2) :: .int (zI z1) :: rest)) := by
  obtain ⟨rfl, rfl, hn, hk⟩ := hz
  have nz : ∀ j : Nat, j < 1000 → ¬ zI (j : Int) < 0 ∧ (zI (j : Int)).toNatClampNeg = j := fun j hj => ⟨fun q => by
    rw [zI_0, zI_lt ⟨⟨by omega, by omega⟩, by decide⟩] at q; omega, zI_clamp (by omega)⟩
  obtain ⟨n1, n2⟩ := nz n hn
  obtain ⟨k1, k2⟩ := nz k hk
  intro T hT A
  obtain ⟨vm1, cA, comp, hW, hfA, hfC, -, -, A', step⟩ := A.multianewarray2F hx (ty := .int) hown hcl hG.1.2.1.2.2.2 harr (g := F0 m pc ls (.int (zI (k : Int)) :: .int (zI (n : Int)) :: rest)) rfl (by rw [hb]; exact d) rfl n1 k1 (by rw [n2]; omega) (by rw [k2]; show k * 4 ≤ _; omega) (by rw [k2]; omega) rfl rfl (by rw [n2]; exact hr.1) (by rw [n2, k2]; exact hr.2)
  rw [n2, k2] at A' step
  have e11 : gT X 11 = cA := Option.some.inj ((show s.vm.findClass ("[" ++ (FieldType.array .int).toString) = some (gT X 11) from (hG.K.2 11 _ rfl).2).symm.trans hfA)
  have e0 : gT X 0 = comp := Option.some.inj ((show s.vm.findClass ("[" ++ FieldType.int.toString) = some (gT X 0) from (hG.K.2 0 _ rfl).2).symm.trans hfC)
  subst e11; subst e0
  have hTh : (T.setVm vm1).heap.size = H.size := by show T.heap.size = _; rw [hT]
  obtain ⟨q1, q2, -, -⟩ := Jvm.Free.Multi.fill_facts (T.setVm vm1) (gT X 11) (gT X 0) n k (defaultValue .int) n
  rw [hTh] at q1 q2
  have hold : ∀ q : Nat, q < H.size → (Jvm.Free.Multi.fill (T.setVm vm1) (gT X 11) (gT X 0) n k (defaultValue .int) n).heap[q]? = H[q]? := fun q hq => by
    rw [Jvm.Free.Multi.fill_old _ _ _ _ _ _ (by rw [hTh]; exact hq)]; show T.heap[q]? = _; rw [hT]
  have hin : ∀ i, i < n → (Jvm.Free.Multi.fill (T.setVm vm1) (gT X 11) (gT X 0) n k (defaultValue .int) n).heap[H.size + 1 + i]? = some (arrV (gT X 0) k (fun _ => .int 0)) := fun i hi => by
    have := Jvm.Free.Multi.fill_inner (T.setVm vm1) (gT X 11) (gT X 0) n k (defaultValue .int) n i hi
    rw [hTh] at this
    rw [this]; exact congrArg some (arrV_new _ _ _)
  have hb1 := tb_push (k := k) hG rfl q1 hold (e0 := tbO X H.size n) (q2.trans (congrArg some ((outer_arrV _ _ _).trans (vp_cell_q _ _ _).symm))) (fun i hi => hin i hi) n (Nat.le_refl n)
  rw [show hCut (Jvm.Free.Multi.fill (T.setVm vm1) (gT X 11) (gT X 0) n k (defaultValue .int) n).heap (H.size + 1 + n) = (Jvm.Free.Multi.fill (T.setVm vm1) (gT X 11) (gT X 0) n k (defaultValue .int) n).heap from by unfold hCut; rw [← q1]; simp] at hb1
  have hb2 : gW X F V ((H.size, tbO X H.size n) :: (tbR X H.size n k (fun _ _ => 0) ++ ws)) s (Jvm.Free.Multi.fill (T.setVm vm1) (gT X 11) (gT X 0) n k (defaultValue .int) n).heap locs := hb1.perm ((List.perm_middle.symm).trans ((List.reverse_perm _).symm.append_right _))
  obtain ⟨t, b1, b2⟩ := kk H.size _ hb2 _ rfl A'
  have step' := step
  rw [show T.heap.size = H.size from by rw [hT]] at step'
  exact ⟨t, step' t b1, b2⟩
end G9
