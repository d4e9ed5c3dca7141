/-! THE GHOST HEAP: cells that change, in a list (with everything else of the world behind them); cells that are done, in a function that only grows -/
set_option maxRecDepth 100000
abbrev gX : Type := va_G × (Nat → ClassId) × (Nat → Prop) × (Nat → Nat)
abbrev gRv : Type := Nat × Option Nat × Nat
abbrev gF : Type := (Nat → Option va_E) × (Nat → Option gRv)
/-- the cells that stay and change, by their role: address, contents -/
abbrev gV : Type := Nat → Option (Nat × va_E)
abbrev gA (X : gX) : Nat → Prop := X.2.2.1
abbrev gT (X : gX) (k : Nat) : ClassId := X.2.1 k
abbrev ga (X : gX) (k : Nat) : Nat := X.2.2.2 k
abbrev oB (c : Nat) (fs : List Value) : va_E := .inr (c, fs)
abbrev aI (c : ClassId) (n : Nat) (f : Nat → Int32) : va_E := .inl (c, n, .inl f)
abbrev aL (c : ClassId) (n : Nat) (f : Nat → Int64) : va_E := .inl (c, n, .inr (.inl f))
abbrev aR (c : ClassId) (n : Nat) (f : Nat → Option Nat) : va_E := .inl (c, n, .inr (.inr (.inr (.inr f))))
abbrev gTY (X : gX) : List (ClassId × FieldType) := [(gT X 0, .int), (gT X 1, .long), (gT X 2, .char), (gT X 3, .byte), (gT X 4, .short), (gT X 5, .boolean), (gT X 6, .object "LineRemarks$Line"), (gT X 7, .object "LineRemarks$Revision"), (gT X 8, .object "LineRemarks$Remark"), (gT X 9, .object "LineRemarks$Shelf"), (gT X 10, .object "java/lang/Object"), (gT X 11, .array .int)]
def gLe (F G : gF) : Prop := (∀ a e, F.1 a = some e → G.1 a = some e) ∧ ∀ a e, F.2 a = some e → G.2 a = some e
theorem gLe.rfl {F : gF} {V : gV} : gLe F F := ⟨fun _ _ h => h, fun _ _ h => h⟩
theorem gLe.tr {F G K : gF} (h : gLe F G) (k : gLe G K) : gLe F K := ⟨fun a e x => k.1 a e (h.1 a e x), fun a e x => k.2 a e (h.2 a e x)⟩
theorem vus {α : Type} {f : Nat → α} {k : Nat} {v : α} : va_up f k v k = v := va_up_self f k v
theorem vun {α : Type} {f : Nat → α} {k j : Nat} {v : α} (h : j ≠ k) : va_up f k v j = f j := va_up_ne f v h
/-! what is done, as mathematics -/
abbrev Ln : Type := List Nat
abbrev Tx : Type := List (List Nat)
def isLine (X : gX) (F : gF) (a : Nat) (cs : Ln) : Prop := ∃ (b : Nat) (f : Nat → Int32), F.1 a = some (oB ciLine [.ref b]) ∧ F.1 b = some (aI (gT X 2) cs.length f) ∧ (∀ j, j < cs.length → f j = zI (cs.getD j 0 : Nat)) ∧ cs.length ≤ 8 ∧ ∀ c ∈ cs, 97 ≤ c ∧ c ≤ 122
theorem isLine.mono {X : gX} {F G : gF} {a : Nat} {cs : Ln} (h : isLine X F a cs) (hl : gLe F G) : isLine X G a cs := by
  obtain ⟨b, f, h1, h2, h3⟩ := h
  exact ⟨b, f, hl.1 _ _ h1, hl.1 _ _ h2, h3⟩
def isText (X : gX) (F : gF) (a : Nat) (t : Tx) : Prop := ∃ f : Nat → Option Nat, F.1 a = some (aR (gT X 6) t.length f) ∧ t.length ≤ 24 ∧ ∀ i cs, t[i]? = some cs → ∃ b, f i = some b ∧ isLine X F b cs
theorem isText.mono {X : gX} {F G : gF} {a : Nat} {t : Tx} (h : isText X F a t) (hl : gLe F G) : isText X G a t := by
  obtain ⟨f, h1, h2, h3⟩ := h
  exact ⟨f, hl.1 _ _ h1, h2, fun i cs hi => by obtain ⟨b, h4, h5⟩ := h3 i cs hi; exact ⟨b, h4, h5.mono hl⟩⟩
/-- the match of ta to tb with runs from r on -/
def isMatch (X : gX) (F : gF) (a : Nat) (r : Nat) (ta tb : Tx) : Prop := ∃ (pl : Nat) (f : Nat → Int32) (v5 v6 v7 v8 : Value), F.1 a = some (oB ciMatch [.int (zI r), .int (zI tb.length), .ref pl, .int (zI (mPairs ta tb)), .int (zI (mMoved ta tb r)), v5, v6, v7, v8]) ∧ F.1 pl = some (aI (gT X 0) ta.length f) ∧ ∀ i, i < ta.length → f i = zI (oI (mPlace ta tb r i))
theorem isMatch.mono {X : gX} {F G : gF} {a r : Nat} {ta tb : Tx} (h : isMatch X F a r ta tb) (hl : gLe F G) : isMatch X G a r ta tb := by
  obtain ⟨pl, f, v5, v6, v7, v8, h1, h2, h3⟩ := h
  exact ⟨pl, f, v5, v6, v7, v8, hl.1 _ _ h1, hl.1 _ _ h2, h3⟩
/-- what a revision's cache may hold -/
def gCache (X : gX) (F : gF) (i : gRv) (v : Value) : Prop := v = .null ∨ ∃ (mt fa : Nat) (fi : gRv) (r : Nat) (ta tb : Tx), v = .ref mt ∧ r < 10 ∧ i.2.1 = some fa ∧ F.2 fa = some fi ∧ isText X F fi.2.2 ta ∧ isText X F i.2.2 tb ∧ isMatch X F mt r ta tb
theorem gCache.mono {X : gX} {F G : gF} {i : gRv} {v : Value} (h : gCache X F i v) (hl : gLe F G) : gCache X G i v := by
  rcases h with h | ⟨mt, fa, fi, r, ta, tb, h1, h0, h2, h3, h4, h5, h6⟩
  · exact Or.inl h
  · exact Or.inr ⟨mt, fa, fi, r, ta, tb, h1, h0, h2, hl.2 _ _ h3, h4.mono hl, h5.mono hl, h6.mono hl⟩
def gFz (X : gX) (F : gF) (V : gV) (ws : va_W) (H : Heap) : Prop :=
  (∀ a e, F.1 a = some e → va_at X.1 gCL (a, e) H ∧ gA X a ∧ ∀ q ∈ ws, q.1 ≠ a) ∧
  (∀ a i, F.2 a = some i → (∃ v, va_at X.1 gCL (a, oB ciRev [.int (zI i.1), va_rf i.2.1, .ref i.2.2, v]) H ∧ gCache X F i v) ∧ gA X a ∧ F.1 a = none ∧ ∀ q ∈ ws, q.1 ≠ a) ∧
  ∀ r x, V r = some x → va_at X.1 gCL x H ∧ gA X x.1 ∧ F.1 x.1 = none ∧ F.2 x.1 = none ∧ (∀ q ∈ ws, q.1 ≠ x.1) ∧ ∀ r' y, V r' = some y → x.1 = y.1 → r = r'
/-- what a heap holds -/
def gH (X : gX) (F : gF) (V : gV) (ws : va_W) (H : Heap) : Prop := va_P X.1 gCL ws H ∧ va_D (gA X) ws ∧ gFz X F V ws H
/-- what never changes: the classes, the tables' words that don't ride in the lists, the constants -/
def gAI (U : State) : Prop := (Cond.arrayOver (.array .int)).before #[] U = true
theorem gAI.moved {u U : State} (hvm : u.vm.Alike U.vm) (h : gAI u) : gAI U := by
  unfold gAI Cond.before at h ⊢
  simp only [Cond.holds, Cond.value, beq_iff_eq] at h ⊢
  cases hc : u.vm.findClass (FieldType.array .int).toString with
  | none => simp [hc] at h
  | some comp =>
    rw [hc, Option.bind_some, Option.bind_eq_some_iff] at h
    obtain ⟨c, hi, h2⟩ := h
    have f1 : U.vm.findClass (FieldType.array .int).toString = some comp := by rw [hvm.findClass]; exact hc
    rw [f1, Option.bind_some, Option.bind_eq_some_iff]
    refine ⟨c, (hvm.findIdx?_eqK _ (fun _ => rfl)).trans hi, ?_⟩
    rw [Option.map_eq_some_iff] at h2 ⊢
    obtain ⟨k, hk, hb⟩ := h2
    obtain ⟨k', hk', he⟩ := hvm.2.2 _ _ hk
    refine ⟨k', hk', ?_⟩
    rw [show k'.kind = k.kind from by rw [he], hvm.findClass]
    exact hb
def gNw (U : State) : Prop := (∀ w ∈ gNWs, va_Nw w U) ∧ (∀ C ∈ gAOs, va_AO C U) ∧ (∀ z ∈ gFws, va_Fw z.1 z.2.1 z.2.2 U) ∧ gAI U
def gC (X : gX) (U : State) (H : Heap) : Prop := va_K X.1 gCL (gTY X) U ∧ gNw U ∧ (∀ q, H.size ≤ q → gA X q) ∧ gZs X U H
def gSt (X : gX) (F : gF) (V : gV) (ws : va_W) (U : State) : Prop := gC X U U.heap ∧ gH X F V ws U.heap
/-- .. in the midst of a method that began at s -/
def gW (X : gX) (F : gF) (V : gV) (ws : va_W) (s : State) (H : Heap) (locs : List Loc) : Prop := gC X s s.heap ∧ gH X F V ws H ∧ va_S (gA X) s.heap H locs
theorem gNw.warm {s U : State} (hW : s.WarmedH U.vm) (h : gNw s) : gNw U := ⟨fun w hw => gNk_warm (gNWs_ok w hw) hW (h.1 w hw), fun C hC => (h.2.1 C hC).moved hW.alike, fun z hz => va_Fw.moved (gFws_mh z hz) hW.alike (h.2.2.1 z hz), gAI.moved hW.alike h.2.2.2⟩
theorem gNw.same {s U : State} (hvm : s.vm = U.vm) (h : gNw s) : gNw U := ⟨fun w hw => va_tabs (gNWs_tab w hw) hvm (h.1 w hw), fun C hC => (h.2.1 C hC).moved (by rw [hvm]; exact Vm.Alike.refl _), fun z hz => va_Fw.moved (gFws_mh z hz) (by rw [hvm]; exact Vm.Alike.refl _) (h.2.2.1 z hz), gAI.moved (by rw [hvm]; exact Vm.Alike.refl _) h.2.2.2⟩
theorem gC.kept {X : gX} {U : State} {H H1 : Heap} (h : gC X U H) (hz : H.size ≤ H1.size) (hq : ∀ a : Nat, a < H.size → ¬ gA X a → H1[a]? = H[a]?) : gC X U H1 := ⟨h.1, h.2.1, fun q hq => h.2.2.1 q (Nat.le_trans hz hq), gZs.kept h.2.2.2 hq⟩
theorem gC.warm {X : gX} {s U : State} {H : Heap} (hW : s.WarmedH U.vm) (h : gC X s H) : gC X U H := ⟨va_K.moved hW.alike h.1, gNw.warm hW h.2.1, h.2.2.1, gZs.moved hW.alike h.2.2.2⟩
theorem gC.same {X : gX} {s U : State} {H : Heap} (hvm : s.vm = U.vm) (h : gC X s H) : gC X U H := ⟨va_K.moved (by rw [hvm]; exact Vm.Alike.refl _) h.1, gNw.same hvm h.2.1, h.2.2.1, gZs.moved (by rw [hvm]; exact Vm.Alike.refl _) h.2.2.2⟩
theorem gW.in {X : gX} {F : gF} {V : gV} {ws : va_W} {s : State} (h : gSt X F V ws s) : gW X F V ws s s.heap [] := ⟨h.1, h.2, va_S.rf⟩
theorem gW.st {X : gX} {F : gF} {V : gV} {ws : va_W} {s U : State} {H : Heap} {locs : List Loc} (h : gW X F V ws s H locs) (hU : U.heap = H) (hW : s.WarmedH U.vm) : gSt X F V ws U := by
  subst hU
  exact ⟨gC.warm hW (gC.kept h.1 h.2.2.1 h.2.2.2.1), h.2.1⟩
/-- a contract's start -/
def gP (X : gX) (F : gF) (V : gV) (ws : va_W) (av : List Value) : Array Value → State → Prop := va_Pc av (fun U => gSt X F V ws U)
theorem gP.blind {X : gX} {F : gF} {V : gV} {ws : va_W} {av : List Value} : FrameBlind (gP X F V ws av) := fun _ U g mk q => ⟨q.1, gC.same (s := U) (U := U.calling g mk _) rfl q.2.1, q.2.2⟩
def gB (X : gX) (u : gF × gV × va_W) (t : State) : Prop := gH X u.1 u.2.1 u.2.2 t.heap
abbrev gQi (X : gX) (post : Int32 → gF → gV → va_W → Prop) : Array Value → State → Outcome → State → Prop := va_Qi (S := gF × gV × va_W) (fun r u => post r u.1 u.2.1 u.2.2) (gB X) (gA X)
abbrev gQl (X : gX) (post : Int64 → gF → gV → va_W → Prop) : Array Value → State → Outcome → State → Prop := va_Ql (S := gF × gV × va_W) (fun r u => post r u.1 u.2.1 u.2.2) (gB X) (gA X)
abbrev gQv (X : gX) (post : gF → gV → va_W → Prop) : Array Value → State → Outcome → State → Prop := va_Qv (S := gF × gV × va_W) (fun u => post u.1 u.2.1 u.2.2) (gB X) (gA X)
abbrev gQq (X : gX) (post : Option Nat → gF → gV → va_W → Prop) : Array Value → State → Outcome → State → Prop := va_Qq (S := gF × gV × va_W) (fun r u => post r u.1 u.2.1 u.2.2) (gB X) (gA X)
/-- an answer that is a cell -/
def gQr (X : gX) (post : Nat → gF → gV → va_W → Prop) : Array Value → State → Outcome → State → Prop := va_Qr (S := gF × gV × va_W) (fun _ => True) (fun u a t => post a u.1 u.2.1 u.2.2 ∧ gB X u t) (gA X)
abbrev gXc (X : gX) (px : String → Nat → gF → gV → va_W → Prop) : String → Addr → State → State → Prop := vx_X (S := gF × gV × va_W) (fun _ => True) (fun E q u t => px E q u.1 u.2.1 u.2.2 ∧ gB X u t) (gA X)
/-! reading a cell of the world -/
theorem gW.K {X : gX} {F : gF} {V : gV} {ws : va_W} {s : State} {H : Heap} {locs : List Loc} (h : gW X F V ws s H locs) : va_K X.1 gCL (gTY X) s := h.1.1
theorem gW.at {X : gX} {F : gF} {V : gV} {ws : va_W} {s : State} {H : Heap} {locs : List Loc} (h : gW X F V ws s H locs) (k : Nat) {q : Nat × va_E} (hk : ws[k]? = some q) : va_at X.1 gCL q H := h.2.1.1 k q hk
theorem gW.fz {X : gX} {F : gF} {V : gV} {ws : va_W} {s : State} {H : Heap} {locs : List Loc} (h : gW X F V ws s H locs) {a : Nat} {e : va_E} (hk : F.1 a = some e) : va_at X.1 gCL (a, e) H := (h.2.1.2.2.1 a e hk).1
theorem gW.rv {X : gX} {F : gF} {V : gV} {ws : va_W} {s : State} {H : Heap} {locs : List Loc} (h : gW X F V ws s H locs) {a : Nat} {i : gRv} (hk : F.2 a = some i) : ∃ v, va_at X.1 gCL (a, oB ciRev [.int (zI i.1), va_rf i.2.1, .ref i.2.2, v]) H ∧ gCache X F i v := (h.2.1.2.2.2.1 a i hk).1
theorem gW.vo {X : gX} {F : gF} {V : gV} {ws : va_W} {s : State} {H : Heap} {locs : List Loc} (h : gW X F V ws s H locs) {r a : Nat} {e : va_E} (hk : V r = some (a, e)) : va_at X.1 gCL (a, e) H := (h.2.1.2.2.2.2 r (a, e) hk).1
theorem gone {D : va_G} {cl : List vw_C} {q : Nat × va_E} {H : Heap} (h : va_at D cl q H) : va_P D cl [q] H := by
  intro k x hx
  have hz : k < 1 := (List.getElem?_eq_some_iff.mp hx).1
  rw [show k = 0 by omega] at hx
  cases hx
  exact h
/-! moving the list about -/
theorem gH.mem {X : gX} {F : gF} {V : gV} {ws ws' : va_W} {H : Heap} (h : gH X F V ws H) (hp : ws'.Perm ws) : gH X F V ws' H := by
  obtain ⟨h1, h2, h3⟩ := h
  have hin : ∀ q, q ∈ ws' → q ∈ ws := fun q hq => hp.mem_iff.mp hq
  have hnd : (ws.map (·.1)).Nodup := by
    rw [List.nodup_iff_pairwise_ne, List.pairwise_iff_getElem]
    intro i j hi hj hij he
    rw [List.getElem_map, List.getElem_map] at he
    have hi' : i < ws.length := by simpa using hi
    have hj' : j < ws.length := by simpa using hj
    have := h2.1 i j ws[i] ws[j] (List.getElem?_eq_getElem hi') (List.getElem?_eq_getElem hj') he
    omega
  have hnd' : (ws'.map (·.1)).Nodup := (hp.map _).nodup_iff.mpr hnd
  refine ⟨fun k q hk => ?_, ⟨fun i j p q hi hj he => ?_, fun k q hk => ?_⟩, ⟨fun a e ha => ?_, fun a i ha => ?_, fun r x hr => ?_⟩⟩
  · obtain ⟨j, hj⟩ := List.getElem?_of_mem (hin q (List.mem_of_getElem? hk))
    exact h1 j q hj
  · obtain ⟨hi1, hi2⟩ := List.getElem?_eq_some_iff.mp hi
    obtain ⟨hj1, hj2⟩ := List.getElem?_eq_some_iff.mp hj
    refine (List.getElem?_inj (by simpa using hi1) hnd').mp ?_
    rw [List.getElem?_map, List.getElem?_map, hi, hj]
    exact congrArg some he
  · obtain ⟨j, hj⟩ := List.getElem?_of_mem (hin q (List.mem_of_getElem? hk))
    exact h2.2 j q hj
  · obtain ⟨g1, g2, g3⟩ := h3.1 a e ha
    exact ⟨g1, g2, fun q hq => g3 q (hin q hq)⟩
  · obtain ⟨g1, g2, g4, g3⟩ := h3.2.1 a i ha
    exact ⟨g1, g2, g4, fun q hq => g3 q (hin q hq)⟩
  · obtain ⟨g1, g2, g4, g5, g3, g6⟩ := h3.2.2 r x hr
    exact ⟨g1, g2, g4, g5, fun q hq => g3 q (hin q hq), g6⟩
theorem gperm : ∀ {ws : va_W} {k : Nat} {q : Nat × va_E}, ws[k]? = some q → (q :: ws.eraseIdx k).Perm ws
  | [], k, q, h => by simp at h
  | x :: l, 0, q, h => by
    rw [List.getElem?_cons_zero] at h
    cases h
    exact List.Perm.refl _
  | x :: l, k + 1, q, h => by
    rw [List.getElem?_cons_succ] at h
    exact (List.Perm.swap x q _).trans ((gperm h).cons x)
/-- the k-th cell comes first -/
theorem gW.pull {X : gX} {F : gF} {V : gV} {ws ws' : va_W} {s : State} {H : Heap} {locs : List Loc} (h : gW X F V ws s H locs) (k : Nat) {q : Nat × va_E} (hk : ws[k]? = some q) (he : q :: ws.eraseIdx k = ws') : gW X F V ws' s H locs := by
  subst he
  exact ⟨h.1, h.2.1.mem (gperm hk), h.2.2⟩
theorem gH.tail {X : gX} {F : gF} {V : gV} {ws : va_W} {q : Nat × va_E} {H : Heap} (h : gH X F V (q :: ws) H) : gH X F V ws H := by
  obtain ⟨h1, h2, h3⟩ := h
  refine ⟨fun k p hk => h1 (k + 1) p (by rw [List.getElem?_cons_succ]; exact hk), ⟨fun i j p r hi hj he => ?_, fun k p hk => h2.2 (k + 1) p (by rw [List.getElem?_cons_succ]; exact hk)⟩, ⟨fun a e ha => ?_, fun a i ha => ?_, fun r x hr => ?_⟩⟩
  · have := h2.1 (i + 1) (j + 1) p r (by rw [List.getElem?_cons_succ]; exact hi) (by rw [List.getElem?_cons_succ]; exact hj) he
    omega
  · obtain ⟨g1, g2, g3⟩ := h3.1 a e ha
    exact ⟨g1, g2, fun p hp => g3 p (List.mem_cons_of_mem _ hp)⟩
  · obtain ⟨g1, g2, g4, g3⟩ := h3.2.1 a i ha
    exact ⟨g1, g2, g4, fun p hp => g3 p (List.mem_cons_of_mem _ hp)⟩
  · obtain ⟨g1, g2, g4, g5, g3, g6⟩ := h3.2.2 r x hr
    exact ⟨g1, g2, g4, g5, fun p hp => g3 p (List.mem_cons_of_mem _ hp), g6⟩
/-- the k-th cell is forgotten -/
theorem gW.drop {X : gX} {F : gF} {V : gV} {ws ws' : va_W} {s : State} {H : Heap} {locs : List Loc} (h : gW X F V ws s H locs) (k : Nat) {q : Nat × va_E} (hk : ws[k]? = some q) (he : ws.eraseIdx k = ws') : gW X F V ws' s H locs := by
  subst he
  exact ⟨h.1, (h.2.1.mem (gperm hk)).tail, h.2.2⟩
theorem gH.lt {X : gX} {F : gF} {V : gV} {ws : va_W} {H : Heap} (h : gH X F V ws H) : ∀ q ∈ ws, q.1 < H.size := by
  intro q hq
  obtain ⟨k, hk⟩ := List.getElem?_of_mem hq
  exact (h.1 k q hk).lt
/-- the first cell is done: it joins what only grows -/
theorem gW.freeze {X : gX} {F : gF} {V : gV} {ws : va_W} {a : Nat} {e : va_E} {s : State} {H : Heap} {locs : List Loc} (h : gW X F V ((a, e) :: ws) s H locs) : ∃ G : gF, gLe F G ∧ G.1 a = some e ∧ gW X G V ws s H locs := by
  obtain ⟨hC, hH, hS⟩ := h
  have hT := hH.tail
  have hn1 : F.1 a = none := by
    cases hq : F.1 a with
    | none => rfl
    | some x => exact absurd rfl ((hH.2.2.1 a x hq).2.2 (a, e) List.mem_cons_self)
  have hn2 : F.2 a = none := by
    cases hq : F.2 a with
    | none => rfl
    | some x => exact absurd rfl ((hH.2.2.2.1 a x hq).2.2.2 (a, e) List.mem_cons_self)
  have hnw : ∀ q ∈ ws, q.1 ≠ a := by
    intro q hq he
    obtain ⟨k, hk⟩ := List.getElem?_of_mem hq
    have := hH.2.1.1 0 (k + 1) (a, e) q (List.getElem?_cons_zero) (by rw [List.getElem?_cons_succ]; exact hk) he.symm
    omega
  have hle : gLe F (va_up F.1 a (some e), F.2) := ⟨fun b x hb => by
    by_cases hba : b = a
    · subst hba; rw [hn1] at hb; cases hb
    · exact (vun hba).trans hb, fun b x hb => hb⟩
  refine ⟨(va_up F.1 a (some e), F.2), hle, vus, hC, ⟨hT.1, hT.2.1, ⟨fun b x hb => ?_, fun b i hb => ?_, fun r x hr => ?_⟩⟩, hS⟩
  · by_cases hba : b = a
    · subst hba
      have h1 : some e = some x := vus.symm.trans hb
      cases h1
      exact ⟨hH.1 0 (b, e) List.getElem?_cons_zero, hH.2.1.2 0 (b, e) List.getElem?_cons_zero, hnw⟩
    · exact hT.2.2.1 b x ((vun hba).symm.trans hb)
  · obtain ⟨⟨v, g1, g2⟩, g3, g4, g5⟩ := hT.2.2.2.1 b i hb
    refine ⟨⟨v, g1, g2.mono hle⟩, g3, ?_, g5⟩
    have hba : b ≠ a := fun q => by subst q; rw [hn2] at hb; cases hb
    exact (vun hba).trans g4
  · obtain ⟨g1, g2, g4, g5, g3, g6⟩ := hT.2.2.2.2 r x hr
    have hxa : x.1 ≠ a := fun q => (hH.2.2.2.2 r x hr).2.2.2.2.1 (a, e) List.mem_cons_self q.symm
    exact ⟨g1, g2, (vun hxa).trans g4, g5, g3, g6⟩
/-- a revision is done -/
theorem gW.freezeR {X : gX} {F : gF} {V : gV} {ws : va_W} {a : Nat} {n : Nat} {f : Option Nat} {t : Nat} {s : State} {H : Heap} {locs : List Loc} (h : gW X F V ((a, oB ciRev [.int (zI n), va_rf f, .ref t, .null]) :: ws) s H locs) : ∃ G : gF, gLe F G ∧ G.2 a = some (n, f, t) ∧ gW X G V ws s H locs := by
  obtain ⟨hC, hH, hS⟩ := h
  have hT := hH.tail
  have hn1 : F.1 a = none := by
    cases hq : F.1 a with
    | none => rfl
    | some x => exact absurd rfl ((hH.2.2.1 a x hq).2.2 _ List.mem_cons_self)
  have hn2 : F.2 a = none := by
    cases hq : F.2 a with
    | none => rfl
    | some x => exact absurd rfl ((hH.2.2.2.1 a x hq).2.2.2 _ List.mem_cons_self)
  have hnw : ∀ q ∈ ws, q.1 ≠ a := by
    intro q hq he
    obtain ⟨k, hk⟩ := List.getElem?_of_mem hq
    have := hH.2.1.1 0 (k + 1) _ q (List.getElem?_cons_zero) (by rw [List.getElem?_cons_succ]; exact hk) he.symm
    omega
  have hle : gLe F (F.1, va_up F.2 a (some (n, f, t))) := ⟨fun b x hb => hb, fun b x hb => by
    by_cases hba : b = a
    · subst hba; rw [hn2] at hb; cases hb
    · exact (vun hba).trans hb⟩
  refine ⟨(F.1, va_up F.2 a (some (n, f, t))), hle, vus, hC, ⟨hT.1, hT.2.1, ⟨fun b x hb => hT.2.2.1 b x hb, fun b i hb => ?_, fun r x hr => ?_⟩⟩, hS⟩
  rotate_left
  · obtain ⟨g1, g2, g4, g5, g3, g6⟩ := hT.2.2.2.2 r x hr
    have hxa : x.1 ≠ a := fun q => (hH.2.2.2.2 r x hr).2.2.2.2.1 _ List.mem_cons_self q.symm
    exact ⟨g1, g2, g4, (vun hxa).trans g5, g3, g6⟩
  by_cases hba : b = a
  · subst hba
    have h1 : some (n, f, t) = some i := vus.symm.trans hb
    cases h1
    exact ⟨⟨.null, hH.1 0 _ List.getElem?_cons_zero, Or.inl rfl⟩, hH.2.1.2 0 _ List.getElem?_cons_zero, hn1, hnw⟩
  · obtain ⟨⟨v, g1, g2⟩, g3, g4, g5⟩ := hT.2.2.2.1 b i ((vun hba).symm.trans hb)
    exact ⟨⟨v, g1, g2.mono hle⟩, g3, g4, g5⟩
/-! writing -/
theorem gW.wr {X : gX} {F : gF} {V : gV} {ws : va_W} {s : State} {H H1 : Heap} {locs : List Loc} (h : gW X F V ws s H locs) (k : Nat) {a i : Nat} {e0 e : va_E} (hk : ws[k]? = some (a, e0)) (he : va_at X.1 gCL (a, e) H1) (hz : H1.size = H.size) (ho : ∀ q : Nat, q ≠ a → H1[q]? = H[q]?) : gW X F V (ws.set k (a, e)) s H1 (locs ++ [⟨a, i⟩]) := by
  obtain ⟨hC, ⟨h1, h2, h3⟩, hS⟩ := h
  have hmem : ∀ q ∈ ws.set k (a, e), ∃ q0 ∈ ws, q0.1 = q.1 := by
    intro q hq
    obtain ⟨j, hj⟩ := List.getElem?_of_mem hq
    have hl := (List.getElem?_eq_some_iff.mp hk).1
    by_cases hjk : j = k
    · subst hjk
      rw [List.getElem?_set_self hl] at hj
      cases hj
      exact ⟨_, List.mem_of_getElem? hk, rfl⟩
    · rw [List.getElem?_set_ne (Ne.symm hjk)] at hj
      exact ⟨q, List.mem_of_getElem? hj, rfl⟩
  refine ⟨hC, ⟨h1.set h2 hk he ho, h2.set hk, ⟨fun b x hb => ?_, fun b x hb => ?_, fun r x hr => ?_⟩⟩, hS.put hz ho (h2.2 k _ hk)⟩
  · obtain ⟨g1, g2, g3⟩ := h3.1 b x hb
    refine ⟨g1.kept (ho b (fun q => g3 _ (List.mem_of_getElem? hk) q.symm)), g2, fun q hq => ?_⟩
    obtain ⟨q0, m1, m2⟩ := hmem q hq
    rw [← m2]
    exact g3 q0 m1
  · obtain ⟨⟨v, g1, g0⟩, g2, g4, g3⟩ := h3.2.1 b x hb
    refine ⟨⟨v, g1.kept (ho b (fun q => g3 _ (List.mem_of_getElem? hk) q.symm)), g0⟩, g2, g4, fun q hq => ?_⟩
    obtain ⟨q0, m1, m2⟩ := hmem q hq
    rw [← m2]
    exact g3 q0 m1
  · obtain ⟨g1, g2, g4, g5, g3, g6⟩ := h3.2.2 r x hr
    refine ⟨g1.kept (ho x.1 (fun q => g3 _ (List.mem_of_getElem? hk) q.symm)), g2, g4, g5, fun q hq => ?_, g6⟩
    obtain ⟨q0, m1, m2⟩ := hmem q hq
    rw [← m2]
    exact g3 q0 m1
/-- a revision's cache is written -/
theorem gW.wrR {X : gX} {F : gF} {V : gV} {ws : va_W} {s : State} {H H1 : Heap} {locs : List Loc} (h : gW X F V ws s H locs) {a i : Nat} {r : gRv} {v : Value} (hk : F.2 a = some r) (he : va_at X.1 gCL (a, oB ciRev [.int (zI r.1), va_rf r.2.1, .ref r.2.2, v]) H1) (hv : gCache X F r v) (hz : H1.size = H.size) (ho : ∀ q : Nat, q ≠ a → H1[q]? = H[q]?) : gW X F V ws s H1 (locs ++ [⟨a, i⟩]) := by
  obtain ⟨hC, ⟨h1, h2, h3⟩, hS⟩ := h
  obtain ⟨-, gA0, gN, gM⟩ := h3.2.1 a r hk
  refine ⟨hC, ⟨h1.kept (fun k q hq => ho q.1 (gM q (List.mem_of_getElem? hq))), h2, ⟨fun b x hb => ?_, fun b x hb => ?_, fun r' x hr => ?_⟩⟩, hS.put hz ho gA0⟩
  · obtain ⟨g1, g2, g3⟩ := h3.1 b x hb
    refine ⟨g1.kept (ho b (fun q => ?_)), g2, g3⟩
    subst q
    rw [gN] at hb; cases hb
  · by_cases hba : b = a
    · subst hba
      rw [hk] at hb
      cases hb
      exact ⟨⟨v, he, hv⟩, gA0, gN, gM⟩
    · obtain ⟨⟨w, g1, g0⟩, g2, g4, g3⟩ := h3.2.1 b x hb
      exact ⟨⟨w, g1.kept (ho b hba), g0⟩, g2, g4, g3⟩
  · obtain ⟨g1, g2, g4, g5, g3, g6⟩ := h3.2.2 r' x hr
    refine ⟨g1.kept (ho x.1 (fun q => ?_)), g2, g4, g5, g3, g6⟩
    rw [q, hk] at g5
    cases g5
/-- a new cell -/
theorem gW.push {X : gX} {F : gF} {V : gV} {ws : va_W} {s : State} {H H1 : Heap} {locs : List Loc} {h0 : Nat} {e : va_E} (h : gW X F V ws s H locs) (hh : H.size = h0) (he : va_at X.1 gCL (h0, e) H1) (hz : H.size ≤ H1.size) (ho : ∀ q : Nat, q < h0 → H1[q]? = H[q]?) : gW X F V ((h0, e) :: ws) s H1 locs := by
  subst hh
  obtain ⟨hC, hH, hS⟩ := h
  have hlt := hH.lt
  obtain ⟨h1, h2, h3⟩ := hH
  have hA : gA X H.size := hC.2.2.1 _ hS.1
  have hk : ∀ (k : Nat) (q : Nat × va_E), ((H.size, e) :: ws)[k]? = some q → (k = 0 ∧ q = (H.size, e)) ∨ ∃ j, k = j + 1 ∧ ws[j]? = some q := by
    intro k q hq
    cases k with
    | zero => rw [List.getElem?_cons_zero] at hq; cases hq; exact Or.inl ⟨rfl, rfl⟩
    | succ j => rw [List.getElem?_cons_succ] at hq; exact Or.inr ⟨j, rfl, hq⟩
  refine ⟨hC, ⟨fun k q hq => ?_, ⟨fun i j p q hi hj hpq => ?_, fun k q hq => ?_⟩, ⟨fun b x hb => ?_, fun b x hb => ?_, fun r x hr => ?_⟩⟩, ⟨Nat.le_trans hS.1 hz, fun q q1 q2 => (ho q (Nat.lt_of_lt_of_le q1 hS.1)).trans (hS.2.1 q q1 q2), hS.2.2⟩⟩
  · rcases hk k q hq with ⟨-, rfl⟩ | ⟨j, -, hj⟩
    · exact he
    · exact (h1 j q hj).kept (ho q.1 (h1 j q hj).lt)
  · rcases hk i p hi with ⟨rfl, rfl⟩ | ⟨i', rfl, hi'⟩ <;> rcases hk j q hj with ⟨rfl, rfl⟩ | ⟨j', rfl, hj'⟩
    · rfl
    · exact absurd hpq (Nat.ne_of_gt (h1 j' q hj').lt)
    · exact absurd hpq (Nat.ne_of_lt (h1 i' p hi').lt)
    · rw [h2.1 i' j' p q hi' hj' hpq]
  · rcases hk k q hq with ⟨-, rfl⟩ | ⟨j, -, hj⟩
    · exact hA
    · exact h2.2 j q hj
  · obtain ⟨g1, g2, g3⟩ := h3.1 b x hb
    refine ⟨g1.kept (ho b g1.lt), g2, fun q hq => ?_⟩
    rcases List.mem_cons.mp hq with rfl | hq
    · exact Nat.ne_of_gt g1.lt
    · exact g3 q hq
  · obtain ⟨⟨v, g1, g0⟩, g2, g4, g3⟩ := h3.2.1 b x hb
    refine ⟨⟨v, g1.kept (ho b g1.lt), g0⟩, g2, g4, fun q hq => ?_⟩
    rcases List.mem_cons.mp hq with rfl | hq
    · exact Nat.ne_of_gt g1.lt
    · exact g3 q hq
  · obtain ⟨g1, g2, g4, g5, g3, g6⟩ := h3.2.2 r x hr
    refine ⟨g1.kept (ho x.1 g1.lt), g2, g4, g5, fun q hq => ?_, g6⟩
    rcases List.mem_cons.mp hq with rfl | hq
    · exact Nat.ne_of_gt g1.lt
    · exact g3 q hq
/-- a cell that stays is written -/
theorem gW.wrV {X : gX} {F : gF} {V : gV} {ws : va_W} {s : State} {H H1 : Heap} {locs : List Loc} (h : gW X F V ws s H locs) {r a i : Nat} {e0 e : va_E} (hk : V r = some (a, e0)) (he : va_at X.1 gCL (a, e) H1) (hz : H1.size = H.size) (ho : ∀ q : Nat, q ≠ a → H1[q]? = H[q]?) : gW X F (va_up V r (some (a, e))) ws s H1 (locs ++ [⟨a, i⟩]) := by
  obtain ⟨hC, ⟨h1, h2, h3⟩, hS⟩ := h
  obtain ⟨-, gA0, gN, gN2, gM, gI⟩ := h3.2.2 r _ hk
  refine ⟨hC, ⟨h1.kept (fun k q hq => ho q.1 (gM q (List.mem_of_getElem? hq))), h2, ⟨fun b x hb => ?_, fun b x hb => ?_, fun r' x hr => ?_⟩⟩, hS.put hz ho gA0⟩
  · obtain ⟨g1, g2, g3⟩ := h3.1 b x hb
    refine ⟨g1.kept (ho b (fun q => ?_)), g2, g3⟩
    subst q
    rw [gN] at hb; cases hb
  · obtain ⟨⟨w, g1, g0⟩, g2, g4, g3⟩ := h3.2.1 b x hb
    refine ⟨⟨w, g1.kept (ho b (fun q => ?_)), g0⟩, g2, g4, g3⟩
    subst q
    rw [gN2] at hb; cases hb
  · have key : ∀ r' x, va_up V r (some (a, e)) r' = some x → ∃ x0, V r' = some x0 ∧ x0.1 = x.1 := by
      intro r' x hr
      by_cases hrr : r' = r
      · subst hrr
        rw [vus] at hr
        cases hr
        exact ⟨_, hk, rfl⟩
      · rw [vun hrr] at hr
        exact ⟨x, hr, rfl⟩
    obtain ⟨x0, k1, k2⟩ := key r' x hr
    obtain ⟨g1, g2, g4, g5, g3, g6⟩ := h3.2.2 r' x0 k1
    rw [k2] at g2 g4 g5
    refine ⟨?_, g2, g4, g5, fun q hq => by rw [← k2]; exact g3 q hq, fun r2 y hy hxy => ?_⟩
    · by_cases hrr : r' = r
      · subst hrr
        rw [vus] at hr
        cases hr
        exact he
      · rw [vun hrr] at hr
        refine ((h3.2.2 r' x hr).1).kept (ho x.1 (fun q => hrr ?_))
        exact (h3.2.2 r' x hr).2.2.2.2.2 r _ hk q
    · obtain ⟨y0, k3, k4⟩ := key r2 y hy
      exact g6 r2 y0 k3 (by rw [k2, hxy, k4])
/-- the first cell of the list takes a role; what had it before is forgotten -/
theorem gW.toV {X : gX} {F : gF} {V : gV} {ws : va_W} {a : Nat} {e : va_E} {s : State} {H : Heap} {locs : List Loc} (h : gW X F V ((a, e) :: ws) s H locs) (r : Nat) : gW X F (va_up V r (some (a, e))) ws s H locs := by
  obtain ⟨hC, hH, hS⟩ := h
  have hT := hH.tail
  have hne : ∀ r' x, V r' = some x → x.1 ≠ a := fun r' x hr q => (hH.2.2.2.2 r' x hr).2.2.2.2.1 (a, e) List.mem_cons_self q.symm
  have hn1 : F.1 a = none := by
    cases hq : F.1 a with
    | none => rfl
    | some x => exact absurd rfl ((hH.2.2.1 a x hq).2.2 (a, e) List.mem_cons_self)
  have hn2 : F.2 a = none := by
    cases hq : F.2 a with
    | none => rfl
    | some x => exact absurd rfl ((hH.2.2.2.1 a x hq).2.2.2 (a, e) List.mem_cons_self)
  have hnw : ∀ q ∈ ws, q.1 ≠ a := by
    intro q hq he
    obtain ⟨k, hk⟩ := List.getElem?_of_mem hq
    have := hH.2.1.1 0 (k + 1) (a, e) q (List.getElem?_cons_zero) (by rw [List.getElem?_cons_succ]; exact hk) he.symm
    omega
  refine ⟨hC, ⟨hT.1, hT.2.1, ⟨hT.2.2.1, hT.2.2.2.1, fun r' x hr => ?_⟩⟩, hS⟩
  by_cases hrr : r' = r
  · subst hrr
    rw [vus] at hr
    cases hr
    refine ⟨hH.1 0 (a, e) List.getElem?_cons_zero, hH.2.1.2 0 (a, e) List.getElem?_cons_zero, hn1, hn2, hnw, fun r2 y hy hxy => ?_⟩
    by_cases h2 : r2 = r'
    · exact h2.symm
    · rw [vun h2] at hy
      exact absurd hxy.symm (hne r2 y hy)
  · rw [vun hrr] at hr
    obtain ⟨g1, g2, g4, g5, g3, g6⟩ := hT.2.2.2.2 r' x hr
    refine ⟨g1, g2, g4, g5, g3, fun r2 y hy hxy => ?_⟩
    by_cases h2 : r2 = r
    · subst h2
      rw [vus] at hy
      cases hy
      exact absurd hxy (hne r' x hr)
    · rw [vun h2] at hy
      exact g6 r2 y hy hxy
/-- a role is taken away -/
theorem gW.dropV {X : gX} {F : gF} {V : gV} {ws : va_W} {s : State} {H : Heap} {locs : List Loc} (h : gW X F V ws s H locs) (r : Nat) : gW X F (va_up V r none) ws s H locs := by
  obtain ⟨hC, ⟨h1, h2, h3⟩, hS⟩ := h
  have key : ∀ r' x, va_up V r none r' = some x → V r' = some x := by
    intro r' x hr
    by_cases hrr : r' = r
    · subst hrr
      rw [vus] at hr
      cases hr
    · rwa [vun hrr] at hr
  refine ⟨hC, ⟨h1, h2, ⟨h3.1, h3.2.1, fun r' x hr => ?_⟩⟩, hS⟩
  obtain ⟨g1, g2, g4, g5, g3, g6⟩ := h3.2.2 r' x (key r' x hr)
  exact ⟨g1, g2, g4, g5, g3, fun r2 y hy => g6 r2 y (key r2 y hy)⟩
/-- a cell that stays moves to another role -/
theorem gW.reV {X : gX} {F : gF} {V V' : gV} {ws : va_W} {s : State} {H : Heap} {locs : List Loc} (h : gW X F V ws s H locs) (f : Nat → Nat) (hf : ∀ r x, V' r = some x → V (f r) = some x) (hi : ∀ r r' x y, V' r = some x → V' r' = some y → f r = f r' → r = r') : gW X F V' ws s H locs := by
  obtain ⟨hC, ⟨h1, h2, h3⟩, hS⟩ := h
  refine ⟨hC, ⟨h1, h2, ⟨h3.1, h3.2.1, fun r' x hr => ?_⟩⟩, hS⟩
  obtain ⟨g1, g2, g4, g5, g3, g6⟩ := h3.2.2 _ x (hf r' x hr)
  exact ⟨g1, g2, g4, g5, g3, fun r2 y hy hxy => hi _ _ _ _ hr hy (g6 _ y (hf r2 y hy) hxy)⟩
