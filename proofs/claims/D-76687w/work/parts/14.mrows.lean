/-! ROWS FOR THE REFERENCE: one object, its arrays; nothing is made -/
set_option maxRecDepth 100000
/-- its numbers by field, its arrays of ints and of longs by field -/
abbrev mS : Type := (Nat → Int) × (Nat → Nat → Int) × (Nat → Nat → Int64)
def mArr (k : Nat) : Bool := k == 1 || k == 2 || k == 3 || k == 4 || k == 6 || k == 7 || k == 9 || k == 10 || k == 11 || k == 14 || k == 15 || k == 18 || k == 19 || k == 20 || k == 22 || k == 23 || k == 25 || k == 26 || k == 27 || k == 30 || k == 37
def mLong (k : Nat) : Bool := k == 3 || k == 11 || k == 20
def mLen (k : Nat) : Nat := match k with
  | 1 => 16 | 2 => 17 | 3 => 408 | 4 => 384 | 6 => 112 | 7 => 3 | 9 => 8 | 10 => 8 | 11 => 1280 | 14 => 20 | 15 => 8 | 18 => 16 | 19 => 16 | 20 => 384 | 22 => 112 | 23 => 3 | 25 => 625 | 26 => 24 | 27 => 24 | 30 => 16 | 37 => 16
  | _ => 0
def mV (ad : Nat → Nat) (S : mS) (k : Nat) : Value := if mArr k = true then .ref (ad k) else .int (zI (S.1 k))
def mCell (X : gX) (S : mS) (k : Nat) : Cell := if mLong k = true then vp_cell (gT X 1) (mLen k, .inr (.inl (S.2.2 k))) else vp_cell (if k = 27 then gT X 5 else gT X 0) (mLen k, .inl (fun j => zI (S.2.1 k j)))
def mUp (f : Nat → Int) (k : Nat) (v : Int) : Nat → Int := fun j => if j = k then v else f j
def mUpA (f : Nat → Nat → Int) (k i : Nat) (v : Int) : Nat → Nat → Int := fun a j => if a = k then (if j = i then v else f a j) else f a j
def mUpL (f : Nat → Nat → Int64) (k i : Nat) (v : Int64) : Nat → Nat → Int64 := fun a j => if a = k then (if j = i then v else f a j) else f a j
def sI (S : mS) (k : Nat) (v : Int) : mS := (mUp S.1 k v, S.2)
def sA (S : mS) (k i : Nat) (v : Int) : mS := (S.1, mUpA S.2.1 k i v, S.2.2)
def sL (S : mS) (k i : Nat) (v : Int64) : mS := (S.1, S.2.1, mUpL S.2.2 k i v)
/-- which cells are its own -/
def mA (mo : Nat) (ad : Nat → Nat) : Nat → Prop := fun q => q = mo ∨ ∃ k, mArr k = true ∧ q = ad k
def mApart (mo : Nat) (ad : Nat → Nat) : Prop := (∀ k, mArr k = true → ad k ≠ mo) ∧ ∀ k k', mArr k = true → mArr k' = true → ad k = ad k' → k = k'
def mH (X : gX) (mo : Nat) (ad : Nat → Nat) (S : mS) (H : Heap) : Prop := mApart mo ad ∧ t_OB mo (X.1.1 ciModel) 41 (X.1.2 ciModel) H (mV ad S) ∧ ∀ k, mArr k = true → H[ad k]? = some (mCell X S k)
def mSt (X : gX) (mo : Nat) (ad : Nat → Nat) (S : mS) (U : State) : Prop := va_K X.1 gCL (gTY X) U ∧ mH X mo ad S U.heap
def mW (X : gX) (mo : Nat) (ad : Nat → Nat) (S : mS) (s : State) (H : Heap) (locs : List Loc) : Prop := va_K X.1 gCL (gTY X) s ∧ mH X mo ad S H ∧ va_S (mA mo ad) s.heap H locs
def mP (X : gX) (mo : Nat) (ad : Nat → Nat) (S : mS) (av : List Value) : Array Value → State → Prop := va_Pc av (fun U => mSt X mo ad S U)
theorem mP.blind {X : gX} {mo : Nat} {ad : Nat → Nat} {S : mS} {av : List Value} : FrameBlind (mP X mo ad S av) := fun _ U g mk q => ⟨q.1, va_K.moved (u := U) (U := U.calling g mk _) (Vm.Alike.refl U.vm) q.2.1, q.2.2⟩
abbrev mQi (X : gX) (mo : Nat) (ad : Nat → Nat) (post : Int32 → mS → Prop) : Array Value → State → Outcome → State → Prop := va_Qi (S := mS) post (fun S t => mH X mo ad S t.heap) (mA mo ad)
abbrev mQl (X : gX) (mo : Nat) (ad : Nat → Nat) (post : Int64 → mS → Prop) : Array Value → State → Outcome → State → Prop := va_Ql (S := mS) post (fun S t => mH X mo ad S t.heap) (mA mo ad)
abbrev mQv (X : gX) (mo : Nat) (ad : Nat → Nat) (post : mS → Prop) : Array Value → State → Outcome → State → Prop := va_Qv (S := mS) post (fun S t => mH X mo ad S t.heap) (mA mo ad)
section MR
variable {p : Program} {l : Launch} {e : Env} {R : Room} {s : State} {m : MethodId} {args : Array Value} {below : List Frame} {meth : Method} {c : Code} {H : Heap} {locs : List Loc} {cells slots : Nat} {Q : State → Prop}
variable {cc : ByteArray} {pc : Nat} {ls : Array Slot} {rest : List Value} {X : gX} {mo : Nat} {ad : Nat → Nat} {S : mS}
theorem mW.in {X : gX} {mo : Nat} {ad : Nat → Nat} {S : mS} {s : State} (h : mSt X mo ad S s) : mW X mo ad S s s.heap [] := ⟨h.1, h.2, va_S.rf⟩
theorem mW.st {U : State} (h : mW X mo ad S s H locs) (hU : U.heap = H) (hW : s.WarmedH U.vm) : mSt X mo ad S U := ⟨va_K.moved hW.alike h.1, by rw [hU]; exact h.2.1⟩
theorem mW.ob (h : mW X mo ad S s H locs) : t_OB mo (X.1.1 ciModel) 41 (X.1.2 ciModel) H (mV ad S) := h.2.1.2.1
/-- a field is read -/
theorem m_get (k : Nat) (hk : k < 41) {v : Value} (hv : mV ad S k = v) (hx : p.tables.exec = Jvm.exec) (hb : c.code = cc) {index : Nat} (hts : ∀ w ∈ lw_all, w.before args s = true) (hown : s.vm.findClass RX4 = some m.cls) (hG : mW X mo ad S s H locs) (hlink : (Cond.fieldLink RX4 index (TX4 k).1 (TX4 k).2.1 (TX4 k).2.2.1).before args s = true) (d : decode cc pc = .ok (.getfield index, 3))
    (kk : W p l e R s m args below meth c H locs cells slots Q (F0 m (pc + 3) ls (v :: rest))) : W p l e R s m args below meth c H locs cells slots Q (F0 m pc ls (.ref mo :: rest)) := by
  obtain ⟨cell, q1, q2, q3, q4⟩ := hG.ob
  obtain ⟨hS, hfc, kC, hkC, hkind⟩ := hG.1.1 ciModel _ rfl
  obtain ⟨cf, kf, fi, f, hi, hsl⟩ := hS k hk
  refine W.getf hx hb hown hlink hi (u_facts hfc hkC (u_lays hts in_X4 hk) hi).1 q1 (by rw [q3]; exact fun h => by cases h) (v := v) ?_ rfl rfl d kk
  rw [hsl, q4 k hk, hv]
theorem mV_upd {k : Nat} (hk : mArr k = false) (v : Int) (j : Nat) : updV (mV ad S) k (.int (zI v)) j = mV ad (sI S k v) j := by
  by_cases h : j = k
  · subst h
    simp [updV, mV, sI, mUp, hk]
  · simp [updV, mV, sI, mUp, h]
theorem mH.keepA {H1 : Heap} (h : mH X mo ad S H) (hne : ∀ q : Nat, q ≠ mo → H1[q]? = H[q]?) (k : Nat) (hk : mArr k = true) : H1[ad k]? = some (mCell X S k) := (hne _ (h.1.1 k hk)).trans (h.2.2 k hk)
/-- a number is written -/
theorem m_put (k : Nat) (hk : k < 41) (hka : mArr k = false) (hfin : (TX4 k).2.2.2 = false) {ty : FieldType} (hd : parseFieldDescriptor (TX4 k).2.2.1 = some ty) {z : Int} (hn : narrow ty (.int (zI z)) = .int (zI z)) (hfit : fits ty (.int (zI z)) = true) (hx : p.tables.exec = Jvm.exec) (hb : c.code = cc) {index : Nat} (hts : ∀ w ∈ lw_all, w.before args s = true) (hown : s.vm.findClass RX4 = some m.cls) (hG : mW X mo ad S s H locs) (hlink : (Cond.fieldLink RX4 index (TX4 k).1 (TX4 k).2.1 (TX4 k).2.2.1).before args s = true) (d : decode cc pc = .ok (.putfield index, 3))
    (kk : ∀ (H1 : Heap) (locs1 : List Loc), mW X mo ad (sI S k z) s H1 locs1 → W p l e R s m args below meth c H1 locs1 cells slots Q (F0 m (pc + 3) ls rest)) : W p l e R s m args below meth c H locs cells slots Q (F0 m pc ls (.int (zI z) :: .ref mo :: rest)) := by
  have hap := va_apart (own := RX4) hts in_X4 tyX4 tyX4_ok nmX4 hG.1 (ci := ciModel) rfl
  obtain ⟨cell, q1, q2, q3, q4⟩ := hG.ob
  obtain ⟨hS, hfc, kC, hkC, hkind⟩ := hG.1.1 ciModel _ rfl
  obtain ⟨cf, kf, fi, f, hi, hsl⟩ := hS k hk
  have hlay := hts _ (in_X4 _ (u_in_lay hk))
  unfold u_lay at hlay
  rw [if_neg (by rw [hfin]; decide)] at hlay
  have hst := (u_facts hfc hkC (u_lays hts in_X4 hk) hi).1
  have h6 := u_store hfc hkC hkind hlay hi hd hn hfit
  refine W.putK hx hb (f := f) ⟨hown, hlink, ⟨_, _, _, hi⟩, hst⟩ (by rw [q2]; exact h6) q1 q3 (by rw [hsl]; exact k2_hasslot (q4 k hk)) rfl rfl d fun H' e1 e2 e3 => ?_
  rw [hsl] at e1 ⊢
  refine kk H' _ ⟨hG.1, ⟨hG.2.1.1, t_OB.to (V := updV (mV ad S) k (.int (zI z))) ⟨_, e1, q2, q3, t_set q4 hap hk _⟩ (fun j _ => mV_upd hka z j), fun k' hk' => ?_⟩, hG.2.2.put e2 e3 (Or.inl rfl)⟩
  exact (hG.2.1.keepA e3 k' hk').trans (by rfl)
theorem mCell_i {k : Nat} (hl : mLong k = false) (h27 : k ≠ 27) : mCell X S k = vp_cell (gT X 0) (mLen k, .inl (fun j => zI (S.2.1 k j))) := by simp [mCell, hl, h27]
theorem mCell_z : mCell X S 27 = vp_cell (gT X 5) (mLen 27, .inl (fun j => zI (S.2.1 27 j))) := by simp [mCell, mLong]
theorem mCell_l {k : Nat} (hl : mLong k = true) : mCell X S k = vp_cell (gT X 1) (mLen k, .inr (.inl (S.2.2 k))) := by simp [mCell, hl]
theorem m_iald (k : Nat) (ha : mArr k = true) (hl : mLong k = false) (h27 : k ≠ 27) (j : Nat) {z v : Int} (hz : z = (j : Int) ∧ j < mLen k) (hv : S.2.1 k j = v) (hx : p.tables.exec = Jvm.exec) (hb : c.code = cc) (hG : mW X mo ad S s H locs) (d : decode cc pc = .ok (.iaload, 1))
    (kk : W p l e R s m args below meth c H locs cells slots Q (F0 m (pc + 1) ls (.int (zI v) :: rest))) : W p l e R s m args below meth c H locs cells slots Q (F0 m pc ls (.int (zI z) :: .ref (ad k) :: rest)) := by
  obtain ⟨rfl, h1⟩ := hz
  subst hv
  have h2 : mLen k < 2147483648 := by unfold mLen; split <;> decide
  have hat : va_at X.1 gCL (ad k, aI (gT X 0) (mLen k) (fun j => zI (S.2.1 k j))) H := (hG.2.1.2.2 k ha).trans (by rw [mCell_i hl h27])
  exact va_iald (tys := gTY X) hx hb hG.1 (gone hat) 0 0 rfl rfl (zI_in h1 h2) d (by rw [zI_clamp (by omega)]; exact kk)
theorem m_zald (j : Nat) {z v : Int} (hz : z = (j : Int) ∧ j < 24) (hv : S.2.1 27 j = v) (hx : p.tables.exec = Jvm.exec) (hb : c.code = cc) (hG : mW X mo ad S s H locs) (d : decode cc pc = .ok (.baload, 1))
    (kk : W p l e R s m args below meth c H locs cells slots Q (F0 m (pc + 1) ls (.int (zI v) :: rest))) : W p l e R s m args below meth c H locs cells slots Q (F0 m pc ls (.int (zI z) :: .ref (ad 27) :: rest)) := by
  obtain ⟨rfl, h1⟩ := hz
  subst hv
  have hat : va_at X.1 gCL (ad 27, aI (gT X 5) 24 (fun j => zI (S.2.1 27 j))) H := (hG.2.1.2.2 27 rfl).trans (by rw [mCell_z]; rfl)
  exact va_zald (tys := gTY X) hx hb hG.1 (gone hat) 0 5 rfl rfl (zI_in h1 (by decide)) d (by rw [zI_clamp (by omega)]; exact kk)
theorem m_lald (k : Nat) (ha : mArr k = true) (hl : mLong k = true) (j : Nat) {z : Int} {v : Int64} (hz : z = (j : Int) ∧ j < mLen k) (hv : S.2.2 k j = v) (hx : p.tables.exec = Jvm.exec) (hb : c.code = cc) (hG : mW X mo ad S s H locs) (d : decode cc pc = .ok (.laload, 1))
    (kk : W p l e R s m args below meth c H locs cells slots Q (F0 m (pc + 1) ls (.long v :: rest))) : W p l e R s m args below meth c H locs cells slots Q (F0 m pc ls (.int (zI z) :: .ref (ad k) :: rest)) := by
  obtain ⟨rfl, h1⟩ := hz
  subst hv
  have h2 : mLen k < 2147483648 := by unfold mLen; split <;> decide
  have hat : va_at X.1 gCL (ad k, aL (gT X 1) (mLen k) (S.2.2 k)) H := (hG.2.1.2.2 k ha).trans (by rw [mCell_l hl])
  exact va_lald (tys := gTY X) hx hb hG.1 (gone hat) 0 1 rfl rfl (zI_in h1 h2) d (by rw [zI_clamp (by omega)]; exact kk)
theorem mA_in {k : Nat} (h : mArr k = true) : mA mo ad (ad k) := Or.inr ⟨k, h, rfl⟩
theorem mW.wr {H1 : Heap} {S' : mS} {k i : Nat} (h : mW X mo ad S s H locs) (ha : mArr k = true) (he : H1[ad k]? = some (mCell X S' k)) (hs : S'.1 = S.1) (ho : ∀ k', k' ≠ k → mCell X S' k' = mCell X S k') (hz : H1.size = H.size) (hq : ∀ q : Nat, q ≠ ad k → H1[q]? = H[q]?) : mW X mo ad S' s H1 (locs ++ [⟨ad k, i⟩]) := by
  obtain ⟨hK, ⟨hp, hO, hR⟩, hS⟩ := h
  refine ⟨hK, ⟨hp, ?_, fun k' hk' => ?_⟩, hS.put hz hq (mA_in ha)⟩
  · refine (hO.kept (hq mo (fun q => hp.1 k ha q.symm))).to fun j _ => ?_
    unfold mV
    rw [hs]
  · by_cases hkk : k' = k
    · subst hkk; exact he
    · rw [hq _ (fun q => hkk (hp.2 k' k hk' ha q)), hR k' hk', ho k' hkk]
theorem m_iast (k : Nat) (ha : mArr k = true) (hl : mLong k = false) (h27 : k ≠ 27) (j : Nat) {z v : Int} (hz : z = (j : Int) ∧ j < mLen k) (hx : p.tables.exec = Jvm.exec) (hb : c.code = cc) (hG : mW X mo ad S s H locs) (d : decode cc pc = .ok (.iastore, 1))
    (kk : ∀ (H1 : Heap) (locs1 : List Loc), mW X mo ad (sA S k j v) s H1 locs1 → W p l e R s m args below meth c H1 locs1 cells slots Q (F0 m (pc + 1) ls rest)) : W p l e R s m args below meth c H locs cells slots Q (F0 m pc ls (.int (zI v) :: .int (zI z) :: .ref (ad k) :: rest)) := by
  obtain ⟨rfl, h1⟩ := hz
  have h2 : mLen k < 2147483648 := by unfold mLen; split <;> decide
  have hin := zI_in h1 h2
  have hcl : (zI (j : Int)).toNatClampNeg = j := zI_clamp (by omega)
  have hat := (hG.2.1.2.2 k ha).trans (by rw [mCell_i hl h27])
  refine W.iast hx hb hat ((hG.1.2 0 _ rfl).1 (mLen k) (fun j => .int (zI (S.2.1 k j)))) (fun q => by cases q) (by show ¬ (_ < 0 ∨ (arrV _ _ _).slots.size ≤ _); rw [arrV_size]; exact hin) rfl rfl d fun H1 e1 e2 e3 => ?_
  rw [hcl] at e1 ⊢
  refine kk H1 _ (hG.wr ha ?_ rfl (fun k' hk' => ?_) e2 e3)
  · rw [e1, vset_i, mCell_i hl h27]
    refine congrArg some (congrArg (fun f => vp_cell (gT X 0) (mLen k, .inl f)) (funext fun i => ?_))
    by_cases hi : i = j
    · subst hi; simp [upd, sA, mUpA]
    · simp [upd, sA, mUpA, hi]
  · simp [mCell, sA, mUpA, hk']
theorem mCell_z' {k : Nat} (hl : mLong k = false) (h27 : k = 27) : mCell X S k = vp_cell (gT X 5) (mLen k, .inl (fun j => zI (S.2.1 k j))) := by subst h27; simp [mCell, mLong]
theorem m_zast0 (k : Nat) (ha : mArr k = true) (hl : mLong k = false) (h27 : k = 27) (j : Nat) {z v : Int} (hz : z = (j : Int) ∧ j < mLen k) (hv : narrow .boolean (.int (zI v)) = .int (zI v)) (hx : p.tables.exec = Jvm.exec) (hb : c.code = cc) (hG : mW X mo ad S s H locs) (d : decode cc pc = .ok (.bastore, 1))
    (kk : ∀ (H1 : Heap) (locs1 : List Loc), mW X mo ad (sA S k j v) s H1 locs1 → W p l e R s m args below meth c H1 locs1 cells slots Q (F0 m (pc + 1) ls rest)) : W p l e R s m args below meth c H locs cells slots Q (F0 m pc ls (.int (zI v) :: .int (zI z) :: .ref (ad k) :: rest)) := by
  obtain ⟨rfl, h1⟩ := hz
  have h2 : mLen k < 2147483648 := by unfold mLen; split <;> decide
  have hin := zI_in h1 h2
  have hcl : (zI (j : Int)).toNatClampNeg = j := zI_clamp (by omega)
  have hat := (hG.2.1.2.2 k ha).trans (by rw [mCell_z' hl h27])
  refine W.zast hx hb hat ((hG.1.2 5 _ rfl).1 (mLen k) (fun j => .int (zI (S.2.1 k j)))) (fun q => by cases q) (by show ¬ (_ < 0 ∨ (arrV _ _ _).slots.size ≤ _); rw [arrV_size]; exact hin) rfl rfl d fun H1 e1 e2 e3 => ?_
  rw [hcl, hv] at e1
  rw [hcl]
  refine kk H1 _ (hG.wr ha ?_ rfl (fun k' hk' => ?_) e2 e3)
  · rw [e1, vset_i, mCell_z' hl h27]
    refine congrArg some (congrArg (fun f => vp_cell (gT X 5) (mLen k, .inl f)) (funext fun i => ?_))
    by_cases hi : i = j
    · subst hi; simp [upd, sA, mUpA]
    · simp [upd, sA, mUpA, hi]
  · simp [mCell, sA, mUpA, hk']
theorem m_zast (j : Nat) {z v : Int} (hz : z = (j : Int) ∧ j < 24) (hv : narrow .boolean (.int (zI v)) = .int (zI v)) (hx : p.tables.exec = Jvm.exec) (hb : c.code = cc) (hG : mW X mo ad S s H locs) (d : decode cc pc = .ok (.bastore, 1))
    (kk : ∀ (H1 : Heap) (locs1 : List Loc), mW X mo ad (sA S 27 j v) s H1 locs1 → W p l e R s m args below meth c H1 locs1 cells slots Q (F0 m (pc + 1) ls rest)) : W p l e R s m args below meth c H locs cells slots Q (F0 m pc ls (.int (zI v) :: .int (zI z) :: .ref (ad 27) :: rest)) := m_zast0 27 rfl rfl rfl j hz hv hx hb hG d kk
theorem m_last (k : Nat) (ha : mArr k = true) (hl : mLong k = true) (j : Nat) {z : Int} {v : Int64} (hz : z = (j : Int) ∧ j < mLen k) (hx : p.tables.exec = Jvm.exec) (hb : c.code = cc) (hG : mW X mo ad S s H locs) (d : decode cc pc = .ok (.lastore, 1))
    (kk : ∀ (H1 : Heap) (locs1 : List Loc), mW X mo ad (sL S k j v) s H1 locs1 → W p l e R s m args below meth c H1 locs1 cells slots Q (F0 m (pc + 1) ls rest)) : W p l e R s m args below meth c H locs cells slots Q (F0 m pc ls (.long v :: .int (zI z) :: .ref (ad k) :: rest)) := by
  obtain ⟨rfl, h1⟩ := hz
  have h2 : mLen k < 2147483648 := by unfold mLen; split <;> decide
  have hin := zI_in h1 h2
  have hcl : (zI (j : Int)).toNatClampNeg = j := zI_clamp (by omega)
  have hat := (hG.2.1.2.2 k ha).trans (by rw [mCell_l hl])
  refine W.last hx hb hat ((hG.1.2 1 _ rfl).1 (mLen k) (fun j => .long (S.2.2 k j))) (fun q => by cases q) (by show ¬ (_ < 0 ∨ (arrV _ _ _).slots.size ≤ _); rw [arrV_size]; exact hin) rfl rfl d fun H1 e1 e2 e3 => ?_
  rw [hcl] at e1 ⊢
  refine kk H1 _ (hG.wr ha ?_ rfl (fun k' hk' => ?_) e2 e3)
  · rw [e1, vset_l, mCell_l hl]
    refine congrArg some (congrArg (fun f => vp_cell (gT X 1) (mLen k, .inr (.inl f))) (funext fun i => ?_))
    by_cases hi : i = j
    · subst hi; simp [vp_updL, sL, mUpL]
    · simp [vp_updL, sL, mUpL, hi]
  · have e9 : mUpL S.2.2 k j v k' = S.2.2 k' := funext fun q => by simp [mUpL, hk']
    simp [mCell, sL, e9]
/-! ends and calls -/
theorem m_iret {post : Int32 → mS → Prop} {mc ms : Nat} {v : Int32} (hx : p.tables.exec = Jvm.exec) (hb : c.code = cc) (hr : meth.sig.returnType = some .int) (hlocks : meth.locks = false) (hG : mW X mo ad S s H locs) (hp : post v S) (hc : cells ≤ mc ∧ slots ≤ ms) (d : decode cc pc = .ok (.ireturn, 1)) : W p l e R s m args below meth c H locs cells slots (MQ below (mQi X mo ad post) args s mc ms (mA mo ad)) (F0 m pc ls [.int v]) :=
  W.widen hc.1 hc.2 (W.iret hx hb hr (fun t ht _ => ⟨⟨v, S, rfl, hp, by show mH X mo ad S t.heap; rw [ht]; exact hG.2.1⟩, hG.2.2.F ht⟩) hG.2.2.2.2 d hlocks)
theorem m_zret {post : Int32 → mS → Prop} {mc ms : Nat} {v : Int32} (hx : p.tables.exec = Jvm.exec) (hb : c.code = cc) (hr : meth.sig.returnType = some .boolean) (hlocks : meth.locks = false) (hn : narrow .boolean (.int v) = .int v) (hG : mW X mo ad S s H locs) (hp : post v S) (hc : cells ≤ mc ∧ slots ≤ ms) (d : decode cc pc = .ok (.ireturn, 1)) : W p l e R s m args below meth c H locs cells slots (MQ below (mQi X mo ad post) args s mc ms (mA mo ad)) (F0 m pc ls [.int v]) :=
  W.widen hc.1 hc.2 (W.zret hx hb hr hn (fun t ht _ => ⟨⟨v, S, rfl, hp, by show mH X mo ad S t.heap; rw [ht]; exact hG.2.1⟩, hG.2.2.F ht⟩) hG.2.2.2.2 d hlocks)
theorem m_lret {post : Int64 → mS → Prop} {mc ms : Nat} {v : Int64} (hx : p.tables.exec = Jvm.exec) (hb : c.code = cc) (hr : meth.sig.returnType = some .long) (hlocks : meth.locks = false) (hG : mW X mo ad S s H locs) (hp : post v S) (hc : cells ≤ mc ∧ slots ≤ ms) (d : decode cc pc = .ok (.lreturn, 1)) : W p l e R s m args below meth c H locs cells slots (MQ below (mQl X mo ad post) args s mc ms (mA mo ad)) (F0 m pc ls [.long v]) :=
  W.widen hc.1 hc.2 (W.lret hx hb hr (fun t ht _ => ⟨⟨v, S, rfl, hp, by show mH X mo ad S t.heap; rw [ht]; exact hG.2.1⟩, hG.2.2.F ht⟩) hG.2.2.2.2 d hlocks)
theorem m_vret {post : mS → Prop} {mc ms : Nat} (hx : p.tables.exec = Jvm.exec) (hb : c.code = cc) (hr : meth.sig.returnType = none) (hlocks : meth.locks = false) (hG : mW X mo ad S s H locs) (hp : post S) (hc : cells ≤ mc ∧ slots ≤ ms) (d : decode cc pc = .ok (.return_, 1)) : W p l e R s m args below meth c H locs cells slots (MQ below (mQv X mo ad post) args s mc ms (mA mo ad)) (F0 m pc ls []) :=
  W.widen hc.1 hc.2 (W.vret hx hb hr (fun t ht _ => ⟨⟨S, rfl, hp, by show mH X mo ad S t.heap; rw [ht]; exact hG.2.1⟩, hG.2.2.F ht⟩) hG.2.2.2.2 d hlocks)
theorem m_preS (hG : mW X mo ad S s H locs) {As : List Value} : PreS s H (mP X mo ad S As) As := ⟨mP.blind, fun _ hU hW => ⟨rfl, hG.st hU hW⟩⟩
theorem m_recv (hG : mW X mo ad S s H locs) : ∃ cell : Cell, H[mo]? = some cell ∧ cell.vm.isStatics = false ∧ s.vm.findClass RX4 = some cell.cls := by
  obtain ⟨cell, q1, q2, q3, -⟩ := hG.ob
  exact ⟨cell, q1, by rw [q3]; rfl, by rw [q2]; exact (hG.1.1 ciModel _ rfl).2.1⟩
theorem m_preV (hG : mW X mo ad S s H locs) {As : List Value} : PreV s H RX4 mo (mP X mo ad S (.ref mo :: As)) As := ⟨mP.blind, m_recv hG, fun _ hU hW => ⟨rfl, hG.st hU hW⟩⟩
variable {mc ms : Nat} {st0 : List Value} {av : Array Value}
theorem m_ci {post : Int32 → mS → Prop} (hr : va_Run p l e R s m args below meth c H locs cells slots mc ms (F0 m pc ls st0) rest (mQi X mo ad post av) (mA mo ad)) (hG : mW X mo ad S s H locs)
    (kk : ∀ (r : Int32) (S' : mS) (H1 : Heap) (locs1 : List Loc), post r S' → mW X mo ad S' s H1 locs1 → W p l e R s m args below meth c H1 locs1 (cells + mc) (slots + ms) Q (F0 m (pc + 3) ls (.int r :: rest))) : W p l e R s m args below meth c H locs cells slots Q (F0 m pc ls st0) :=
  va_calli hr hG.2.2 (fun _ _ h => h) (fun _ h => h) fun r u _ H1 locs1 ht _ hp hB _ _ hS => kk r u H1 locs1 hp ⟨hG.1, by rw [← ht]; exact hB, hS⟩
theorem m_cv {post : mS → Prop} (hr : va_Run p l e R s m args below meth c H locs cells slots mc ms (F0 m pc ls st0) rest (mQv X mo ad post av) (mA mo ad)) (hG : mW X mo ad S s H locs)
    (kk : ∀ (S' : mS) (H1 : Heap) (locs1 : List Loc), post S' → mW X mo ad S' s H1 locs1 → W p l e R s m args below meth c H1 locs1 (cells + mc) (slots + ms) Q (F0 m (pc + 3) ls rest)) : W p l e R s m args below meth c H locs cells slots Q (F0 m pc ls st0) :=
  va_callv hr hG.2.2 (fun _ _ h => h) (fun _ h => h) fun u _ H1 locs1 ht _ hp hB _ _ hS => kk u H1 locs1 hp ⟨hG.1, by rw [← ht]; exact hB, hS⟩
end MR
/-- a contract of the reference, from the method's entry -/
theorem Met.m {l : Launch} {y : MethodName} {cc : ByteArray} {maxL : Nat} {ret : Option FieldType} {rm : Room} {Qc : Array Value → State → Outcome → State → Prop} {mc ms : Nat} {X : gX} {mo : Nat} {ad : Nat → Nat} {S : mS} {av : List Value} (hy : plainName y.cls = true) (hlen : (lg_sl av).length ≤ maxL)
    (body : ∀ (p : Program) (e : Env) (s : State) (m : MethodId) (below : List Frame) (meth : Method) (c : Code) (ls : Array Slot), p.tables.exec = Jvm.exec → c.code = cc → meth.sig.returnType = ret → (∀ w ∈ lw_all, w.before av.toArray s = true) → s.vm.findClass y.cls = some m.cls → meth.locks = false → c.maxLocals = maxL → mW X mo ad S s s.heap [] → lv_has ls maxL (lv_args 0 av) →
      W p l e rm s m av.toArray below meth c s.heap [] 0 0 (MQ below Qc av.toArray s mc ms (mA mo ad)) (F0 m 0 ls [])) : Met l y (ws_ y cc maxL ret) rm (mP X mo ad S av) Qc mc ms (mA mo ad) := by
  refine Met.ofW (cc := cc) (maxL := maxL) (ret := ret) hy rfl ?_
  intro p e s m args below meth c s₁ B hml hv
  obtain ⟨rfl, hG⟩ := hv
  have hts := atoms_spec (ws := ws_ y cc maxL ret) B.pre
  rw [lg_entry_eq]
  exact body p e s m below meth c _ B.exec B.bytes B.returns (fun w h => hts w (List.mem_cons_of_mem _ h)) (findClass_of_methodNamed B.named) B.notSynchronized hml (mW.in hG) (lv_entry av hlen)
