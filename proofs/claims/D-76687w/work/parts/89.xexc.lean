set_option maxRecDepth 100000
/-! EXCEPTIONS OVER THE GHOST HEAP -/
theorem q108 : (Jvm.Cond.initialized "java/lang/String") ∈ lw_all := lw_g (lw_at lw_m1 22 rfl) rfl
theorem q491 : (Jvm.Cond.instantiable "java/lang/String" (4 : Nat)) ∈ lw_all := lw_g (lw_at lw_m2 165 rfl) rfl
theorem q493 : (Jvm.Cond.laysFinal "java/lang/String" "java/lang/String" "value" "[B") ∈ lw_all := lw_g (lw_at lw_m2 167 rfl) rfl
theorem q494 : (Jvm.Cond.soleField "java/lang/String" "value") ∈ lw_all := lw_g (lw_at lw_m2 168 rfl) rfl
theorem q495 : (Jvm.Cond.laysFinal "java/lang/String" "java/lang/String" "coder" "B") ∈ lw_all := lw_g (lw_at lw_m2 169 rfl) rfl
theorem q496 : (Jvm.Cond.soleField "java/lang/String" "coder") ∈ lw_all := lw_g (lw_at lw_m2 170 rfl) rfl
section GE
variable {p : Program} {l : Launch} {e : Env} {R : Room} {s : State} {m : MethodId} {args : Array Value} {below : List Frame} {meth : Method} {c : Code} {H : Heap} {locs : List Loc} {cells slots : Nat} {Q : State → Prop}
variable {cc : ByteArray} {pc : Nat} {ls : Array Slot} {rest : List Value} {X : gX} {F : gF} {V : gV} {ws : va_W} {a : Nat}
theorem gW.grown {H1 : Heap} (h : gW X F V ws s H locs) (hz : H.size ≤ H1.size) (ho : ∀ q : Nat, q < H.size → H1[q]? = H[q]?) (hS : va_S (gA X) s.heap H1 locs) : gW X F V ws s H1 locs := by
  obtain ⟨hC, ⟨h1, h2, h3⟩, -⟩ := h
  refine ⟨hC, ⟨fun k q hq => (h1 k q hq).kept (ho q.1 (h1 k q hq).lt), h2, ⟨fun b x hb => ?_, fun b x hb => ?_, fun r x hr => ?_⟩⟩, hS⟩
  · obtain ⟨g1, g2, g3⟩ := h3.1 b x hb
    exact ⟨g1.kept (ho b g1.lt), g2, g3⟩
  · obtain ⟨⟨v, g1, g0⟩, g2, g4, g3⟩ := h3.2.1 b x hb
    exact ⟨⟨v, g1.kept (ho b g1.lt), g0⟩, g2, g4, g3⟩
  · obtain ⟨g1, g2, g4, g5, g3, g6⟩ := h3.2.2 r x hr
    exact ⟨g1.kept (ho x.1 g1.lt), g2, g4, g5, g3, g6⟩
/-- the cell of an exception -/
def exC (E : String) (s : State) (H : Heap) (ce : Cell) (q : Nat) : Prop := H[q]? = some ce ∧ ce.vm = .none ∧ s.vm.findClass E = some ce.cls
theorem ex_cell (hG : gW X F V ws s H locs) {q ci : Nat} {fs : List Value} (h : F.1 q = some (oB ci fs)) {k : vw_C} (hc : gCL[ci]? = some k) : ∃ ce : Cell, exC k.1 s H ce q := by
  obtain ⟨r, h1, cell, q1, q2, q3, q4⟩ := hG.fz h
  have hr : r = k := Option.some.inj (h1.symm.trans hc)
  subst hr
  obtain ⟨hS, hfc, kC, hkC, hkind⟩ := hG.K.1 ci _ hc
  exact ⟨cell, q1, q3, by rw [q2]; exact hfc⟩
theorem g_out {px : String → Nat → gF → gV → va_W → Prop} {Qc : Array Value → State → Outcome → State → Prop} {mc ms : Nat} {own E : String} {ce : Cell} {q : Nat} (hown : s.vm.findClass own = some m.cls) (hlocks : meth.locks = false) (hpass : ∀ z ∈ c.exceptionTable.toList, covers z pc = false ∨ (z.catchType ≠ 0 ∧ ∃ nm : String, (Cond.classLink own z.catchType nm).before args s = true ∧ va_Nc E nm s)) (hG : gW X F V ws s H locs) (hce : exC E s H ce q) (hp : px E q F V ws) (hc : cells ≤ mc ∧ slots ≤ ms) : vx_W p l e R s m args below meth c H locs cells slots (vx_MQ below Qc (gXc X px) args s mc ms (gA X)) (F0 m pc ls rest) q :=
  vx_outP hown hlocks hpass hce.1 hce.2.1 hce.2.2 (fun t ht _ => ⟨(F, V, ws), trivial, ⟨hp, (hG.atEnd ht).1⟩, (hG.atEnd ht).2⟩) hG.2.2.2.2 hc.1 hc.2
theorem g_catch {own name : String} {E : String} {ce : Cell} {q : Nat} {hh : List (Nat × Nat × Nat × Nat)} (hown : s.vm.findClass own = some m.cls) (htab : c.exceptionTable.toList = tableOf hh) (pre : List ExceptionTableEntry) (x : ExceptionTableEntry) (suf : List ExceptionTableEntry) (hsplit : tableOf hh = pre ++ x :: suf)
    (hpass : ∀ z ∈ pre, covers z pc = false ∨ (z.catchType ≠ 0 ∧ ∃ nm : String, (Cond.classLink own z.catchType nm).before args s = true ∧ va_Nc E nm s)) (hx : covers x pc = true) (h0 : x.catchType ≠ 0)
    (hlink : (Cond.classLink own x.catchType name).before args s = true) (hcast : va_Nw (Cond.castable E name) s) (hce : exC E s H ce q)
    (kk : W p l e R s m args below meth c H locs cells slots Q (F0 m x.handlerPc ls [.ref q])) : vx_W p l e R s m args below meth c H locs cells slots Q (F0 m pc ls rest) q :=
  vx_catch hown pre x suf (htab.trans hsplit) hpass hx h0 hlink (va_Nw.use rfl hcast) hce.1 hce.2.1 hce.2.2 kk
variable {mc ms : Nat} {st0 : List Value} {av : Array Value} {px : String → Nat → gF → gV → va_W → Prop}
theorem g_xi {post : Int32 → gF → gV → va_W → Prop} (hr : vx_Run p l e R s m args below meth c H locs cells slots mc ms (F0 m pc ls st0) rest (gQi X post av) (gXc X px) (gA X)) (hG : gW X F V ws s H locs)
    (kx : ∀ (E : String) (ce : Cell) (q : Nat) (F' : gF) (V' : gV) (ws' : va_W) (H1 : Heap) (locs1 : List Loc), px E q F' V' ws' → gW X F' V' ws' s H1 locs1 → exC E s H1 ce q → vx_W p l e R s m args below meth c H1 locs1 (cells + mc) (slots + ms) Q (F0 m pc ls rest) q)
    (kk : ∀ (r : Int32) (F' : gF) (V' : gV) (ws' : va_W) (H1 : Heap) (locs1 : List Loc), post r F' V' ws' → gW X F' V' ws' s H1 locs1 → W p l e R s m args below meth c H1 locs1 (cells + mc) (slots + ms) Q (F0 m (pc + 3) ls (.int r :: rest))) : W p l e R s m args below meth c H locs cells slots Q (F0 m pc ls st0) :=
  vx_calli hr hG.2.2 (fun _ _ h => h) (fun _ h => h) (fun _ _ h => h) (fun E ce q9 u _ H1 locs1 ht _ _ hB _ _ hS h1 h2 h3 => kx E ce q9 u.1 u.2.1 u.2.2 H1 locs1 hB.1 (hG.back ht hB.2 hS) ⟨h1, h2, h3⟩) fun r u _ H1 locs1 ht _ hp hB _ _ hS => kk r u.1 u.2.1 u.2.2 H1 locs1 hp (hG.back ht hB hS)
theorem g_xl {post : Int64 → gF → gV → va_W → Prop} (hr : vx_Run p l e R s m args below meth c H locs cells slots mc ms (F0 m pc ls st0) rest (gQl X post av) (gXc X px) (gA X)) (hG : gW X F V ws s H locs)
    (kx : ∀ (E : String) (ce : Cell) (q : Nat) (F' : gF) (V' : gV) (ws' : va_W) (H1 : Heap) (locs1 : List Loc), px E q F' V' ws' → gW X F' V' ws' s H1 locs1 → exC E s H1 ce q → vx_W p l e R s m args below meth c H1 locs1 (cells + mc) (slots + ms) Q (F0 m pc ls rest) q)
    (kk : ∀ (r : Int64) (F' : gF) (V' : gV) (ws' : va_W) (H1 : Heap) (locs1 : List Loc), post r F' V' ws' → gW X F' V' ws' s H1 locs1 → W p l e R s m args below meth c H1 locs1 (cells + mc) (slots + ms) Q (F0 m (pc + 3) ls (.long r :: rest))) : W p l e R s m args below meth c H locs cells slots Q (F0 m pc ls st0) :=
  vx_calll hr hG.2.2 (fun _ _ h => h) (fun _ h => h) (fun _ _ h => h) (fun E ce q9 u _ H1 locs1 ht _ _ hB _ _ hS h1 h2 h3 => kx E ce q9 u.1 u.2.1 u.2.2 H1 locs1 hB.1 (hG.back ht hB.2 hS) ⟨h1, h2, h3⟩) fun r u _ H1 locs1 ht _ hp hB _ _ hS => kk r u.1 u.2.1 u.2.2 H1 locs1 hp (hG.back ht hB hS)
theorem g_xv {post : gF → gV → va_W → Prop} (hr : vx_Run p l e R s m args below meth c H locs cells slots mc ms (F0 m pc ls st0) rest (gQv X post av) (gXc X px) (gA X)) (hG : gW X F V ws s H locs)
    (kx : ∀ (E : String) (ce : Cell) (q : Nat) (F' : gF) (V' : gV) (ws' : va_W) (H1 : Heap) (locs1 : List Loc), px E q F' V' ws' → gW X F' V' ws' s H1 locs1 → exC E s H1 ce q → vx_W p l e R s m args below meth c H1 locs1 (cells + mc) (slots + ms) Q (F0 m pc ls rest) q)
    (kk : ∀ (F' : gF) (V' : gV) (ws' : va_W) (H1 : Heap) (locs1 : List Loc), post F' V' ws' → gW X F' V' ws' s H1 locs1 → W p l e R s m args below meth c H1 locs1 (cells + mc) (slots + ms) Q (F0 m (pc + 3) ls rest)) : W p l e R s m args below meth c H locs cells slots Q (F0 m pc ls st0) :=
  vx_callv hr hG.2.2 (fun _ _ h => h) (fun _ h => h) (fun _ _ h => h) (fun E ce q9 u _ H1 locs1 ht _ _ hB _ _ hS h1 h2 h3 => kx E ce q9 u.1 u.2.1 u.2.2 H1 locs1 hB.1 (hG.back ht hB.2 hS) ⟨h1, h2, h3⟩) fun u _ H1 locs1 ht _ hp hB _ _ hS => kk u.1 u.2.1 u.2.2 H1 locs1 hp (hG.back ht hB hS)
theorem g_xr {post : Nat → gF → gV → va_W → Prop} (hr : vx_Run p l e R s m args below meth c H locs cells slots mc ms (F0 m pc ls st0) rest (gQr X post av) (gXc X px) (gA X)) (hG : gW X F V ws s H locs)
    (kx : ∀ (E : String) (ce : Cell) (q : Nat) (F' : gF) (V' : gV) (ws' : va_W) (H1 : Heap) (locs1 : List Loc), px E q F' V' ws' → gW X F' V' ws' s H1 locs1 → exC E s H1 ce q → vx_W p l e R s m args below meth c H1 locs1 (cells + mc) (slots + ms) Q (F0 m pc ls rest) q)
    (kk : ∀ (r : Nat) (F' : gF) (V' : gV) (ws' : va_W) (H1 : Heap) (locs1 : List Loc), post r F' V' ws' → gW X F' V' ws' s H1 locs1 → W p l e R s m args below meth c H1 locs1 (cells + mc) (slots + ms) Q (F0 m (pc + 3) ls (.ref r :: rest))) : W p l e R s m args below meth c H locs cells slots Q (F0 m pc ls st0) := by
  intro T hT X9
  rcases hr T hT X9 with ⟨v, st₀, t, T', L, h0, X', hL, e1, e2, ⟨⟨u, r, hv, hp, hb⟩, hF⟩, st⟩ | ⟨q, st₀, t, T', L, E, ce, h0, X', hL, e1, e2, ⟨u, hp, hb, hF⟩, hce, hcv, hcl, st⟩
  · cases hv
    obtain ⟨k1, k2, k3⟩ := vx_keep h0 e1 hG.2.2 (fun _ _ h => h) (fun _ h => h) hL hF
    obtain ⟨t2, a1, b1⟩ := kk r u.1 u.2.1 u.2.2 T'.heap (locs ++ L) hb.1 (hG.back e1.symm hb.2 k3) T' rfl X'
    exact ⟨t2, st t2 a1, b1⟩
  · obtain ⟨k1, k2, k3⟩ := vx_keep h0 e1 hG.2.2 (fun _ _ h => h) (fun _ h => h) hL hF
    obtain ⟨t2, a1, b1⟩ := kx E ce q u.1 u.2.1 u.2.2 T'.heap (locs ++ L) hb.1 (hG.back e1.symm hb.2 k3) ⟨by rw [e1]; exact hce, hcv, hcl⟩ T' rfl X'
    exact ⟨t2, st.trans a1, b1⟩
/-- an exception that the machine raises -/
theorem g_raise {E text : String} {names : List String} {nb : Nat} (hx : p.tables.exec = Jvm.exec) (hst : l.stackTraces = false) (hcls : Bundle.fit E = true) (hnames : ∀ n ∈ names, Bundle.fit n = true) (hso : (E == "java/lang/StackOverflowError") = false ∧ (E == "java/lang/OutOfMemoryError") = false) (hat : ∀ w ∈ vx_atM E names, w.before args s = true) (hgood : ∀ w ∈ vx_atM E names, vx_ot w = true) (hG : gW X F V ws s H locs) (hsz : ls.size = c.maxLocals)
    (htext : (text == notModelled) = false ∧ (stringBytes (stringToUtf16 text)).size ≤ nb ∧ nb ≤ 1000) (hfr : names.length + 4 < R.frames ∧ 13 * names.length + 55 ≤ 10240) (hlo : (rest.map fun v => v.category).sum + 10240 ≤ R.locals) (hcs : cells + 3 ≤ R.cells ∧ slots + (nb + 10) ≤ R.slots) (hlocks : meth.locks = false)
    (k : ∀ (H1 : Heap) (q9 : Nat) (ce : Cell), gW X F V ws s H1 locs → exC E s H1 ce q9 → vx_W p l e R s m args below meth c H1 locs (cells + 3) (slots + (nb + 10)) Q (F0 m pc ls rest) q9) : vx_Note p l e R s m args below meth c H locs cells slots Q (F0 m pc ls rest) E text :=
  vx_vm hx hst hcls hnames hso.1 hso.2 hat hgood hG.1.2.2.2.2.2.2.2.2.2.2.2.2.1 hG.1.2.2.2.2.2.2.2.2.2.2.2.2.2.1 hG.2.2 hsz htext.1 htext.2.1 htext.2.2 hfr.1 hlo hfr.2 hcs.1 hcs.2 hlocks (fun H1 q9 ce hz ho hS h1 h2 h3 => k H1 q9 ce (hG.grown hz ho hS) ⟨h1, h2, h3⟩)
theorem exw_A (hts : ∀ w ∈ lw_all, w.before args s = true) (hG : gW X F V ws s H locs) : ∀ w ∈ vx_atM "java/lang/ArrayIndexOutOfBoundsException" ["java/lang/IndexOutOfBoundsException", "java/lang/RuntimeException", "java/lang/Exception"], w.before args s = true := by
  intro w hw
  obtain ⟨h1, h2⟩ := List.mem_filter.mp hw
  exact (show ∀ w ∈ Bundle.messageArmAtoms "java/lang/ArrayIndexOutOfBoundsException" ["java/lang/IndexOutOfBoundsException", "java/lang/RuntimeException", "java/lang/Exception"], vx_no w = true → w.before args s = true from List.forall_mem_append.mpr ⟨List.forall_mem_append.mpr ⟨List.forall_mem_append.mpr ⟨List.forall_mem_append.mpr ⟨List.forall_mem_cons.mpr ⟨(fun _ => hts _ q103), List.forall_mem_cons.mpr ⟨(fun _ => hts _ q488), List.forall_mem_cons.mpr ⟨(fun _ => hts _ q437), List.forall_mem_cons.mpr ⟨(fun _ => hts _ q448), List.forall_mem_cons.mpr ⟨(fun _ => hts _ q451), List.forall_mem_cons.mpr ⟨(fun _ => hts _ q453), List.forall_mem_cons.mpr ⟨(fun _ => hts _ q489), List.forall_mem_cons.mpr ⟨(fun _ => hts _ q490), List.forall_mem_cons.mpr ⟨(fun _ => hts _ q170), List.forall_mem_cons.mpr ⟨(fun _ => hts _ q171), List.forall_mem_cons.mpr ⟨(fun _ => hts _ q431), List.forall_mem_cons.mpr ⟨(fun _ => hts _ q436), List.forall_mem_cons.mpr ⟨(fun _ => hts _ q449), List.forall_mem_cons.mpr ⟨(fun _ => hts _ q456), List.forall_mem_cons.mpr ⟨(fun _ => hts _ q482), List.forall_mem_cons.mpr ⟨(fun _ => hts _ q457), List.forall_mem_cons.mpr ⟨(fun _ => hts _ q483), List.forall_mem_cons.mpr ⟨(fun _ => hts _ q458), List.forall_mem_cons.mpr ⟨(fun _ => hts _ q484), List.forall_mem_cons.mpr ⟨(fun _ => hts _ q432), List.forall_mem_cons.mpr ⟨(fun h9 => absurd h9 (by decide +kernel)), List.forall_mem_cons.mpr ⟨(fun _ => hts _ q434), List.forall_mem_cons.mpr ⟨(fun h9 => absurd h9 (by decide +kernel)), List.forall_mem_cons.mpr ⟨(fun _ => hts _ q485), (fun _ h9 => absurd h9 List.not_mem_nil)⟩⟩⟩⟩⟩⟩⟩⟩⟩⟩⟩⟩⟩⟩⟩⟩⟩⟩⟩⟩⟩⟩⟩⟩, List.forall_mem_cons.mpr ⟨(fun _ => hts _ q429), List.forall_mem_cons.mpr ⟨(fun _ => hts _ q430), List.forall_mem_cons.mpr ⟨(fun _ => hts _ q455), List.forall_mem_cons.mpr ⟨(fun _ => hts _ q485), (fun _ h9 => absurd h9 List.not_mem_nil)⟩⟩⟩⟩⟩, List.forall_mem_append.mpr ⟨List.forall_mem_cons.mpr ⟨(fun _ => hts _ q417), List.forall_mem_cons.mpr ⟨(fun _ => hts _ q418), List.forall_mem_cons.mpr ⟨(fun _ => hts _ q419), List.forall_mem_cons.mpr ⟨(fun _ => hts _ q420), List.forall_mem_cons.mpr ⟨(fun _ => va_Nw.use rfl (hG.1.2.1.1 _ qn474)), (fun _ h9 => absurd h9 List.not_mem_nil)⟩⟩⟩⟩⟩, List.forall_mem_append.mpr ⟨List.forall_mem_cons.mpr ⟨(fun _ => hts _ q420), List.forall_mem_cons.mpr ⟨(fun _ => hts _ q421), List.forall_mem_cons.mpr ⟨(fun _ => hts _ q422), List.forall_mem_cons.mpr ⟨(fun _ => hts _ q423), List.forall_mem_cons.mpr ⟨(fun _ => va_Nw.use rfl (hG.1.2.1.1 _ qn476)), (fun _ h9 => absurd h9 List.not_mem_nil)⟩⟩⟩⟩⟩, List.forall_mem_append.mpr ⟨List.forall_mem_cons.mpr ⟨(fun _ => hts _ q423), List.forall_mem_cons.mpr ⟨(fun _ => hts _ q424), List.forall_mem_cons.mpr ⟨(fun _ => hts _ q425), List.forall_mem_cons.mpr ⟨(fun _ => hts _ q426), List.forall_mem_cons.mpr ⟨(fun _ => va_Nw.use rfl (hG.1.2.1.1 _ qn478)), (fun _ h9 => absurd h9 List.not_mem_nil)⟩⟩⟩⟩⟩, List.forall_mem_cons.mpr ⟨(fun _ => hts _ q426), List.forall_mem_cons.mpr ⟨(fun _ => hts _ q427), List.forall_mem_cons.mpr ⟨(fun _ => hts _ q428), List.forall_mem_cons.mpr ⟨(fun _ => hts _ q429), List.forall_mem_cons.mpr ⟨(fun _ => va_Nw.use rfl (hG.1.2.1.1 _ qn480)), (fun _ h9 => absurd h9 List.not_mem_nil)⟩⟩⟩⟩⟩⟩⟩⟩⟩, List.forall_mem_cons.mpr ⟨(fun _ => hts _ q108), List.forall_mem_cons.mpr ⟨(fun _ => hts _ q491), List.forall_mem_cons.mpr ⟨(fun _ => hts _ q492), List.forall_mem_cons.mpr ⟨(fun _ => hts _ q493), List.forall_mem_cons.mpr ⟨(fun _ => hts _ q495), List.forall_mem_cons.mpr ⟨(fun _ => hts _ q494), List.forall_mem_cons.mpr ⟨(fun _ => hts _ q496), (fun _ h9 => absurd h9 List.not_mem_nil)⟩⟩⟩⟩⟩⟩⟩⟩, List.forall_mem_cons.mpr ⟨(fun _ => hts _ q107), List.forall_mem_cons.mpr ⟨(fun _ => hts _ q416), List.forall_mem_cons.mpr ⟨(fun _ => va_Nw.use rfl (hG.1.2.1.1 _ qn472)), List.forall_mem_cons.mpr ⟨(fun _ => hts _ q481), List.forall_mem_cons.mpr ⟨(fun _ => hts _ q441), List.forall_mem_cons.mpr ⟨(fun _ => hts _ q463), List.forall_mem_cons.mpr ⟨(fun _ => hts _ q465), List.forall_mem_cons.mpr ⟨(fun _ => hts _ q469), List.forall_mem_cons.mpr ⟨(fun _ => hts _ q461), List.forall_mem_cons.mpr ⟨(fun h9 => absurd h9 (by decide +kernel)), List.forall_mem_cons.mpr ⟨(fun h9 => absurd h9 (by decide +kernel)), List.forall_mem_cons.mpr ⟨(fun _ => hts _ q487), List.forall_mem_cons.mpr ⟨(fun _ => hts _ q486), List.forall_mem_cons.mpr ⟨(fun _ => hts _ q459), (fun _ h9 => absurd h9 List.not_mem_nil)⟩⟩⟩⟩⟩⟩⟩⟩⟩⟩⟩⟩⟩⟩⟩) w h1 h2
theorem exw_A_ok : ∀ w ∈ vx_atM "java/lang/ArrayIndexOutOfBoundsException" ["java/lang/IndexOutOfBoundsException", "java/lang/RuntimeException", "java/lang/Exception"], vx_ot w = true := List.all_eq_true.mp (by decide +kernel)
theorem exw_N (hts : ∀ w ∈ lw_all, w.before args s = true) (hG : gW X F V ws s H locs) : ∀ w ∈ vx_atM "java/lang/NegativeArraySizeException" ["java/lang/RuntimeException", "java/lang/Exception"], w.before args s = true := by
  intro w hw
  obtain ⟨h1, h2⟩ := List.mem_filter.mp hw
  exact (show ∀ w ∈ Bundle.messageArmAtoms "java/lang/NegativeArraySizeException" ["java/lang/RuntimeException", "java/lang/Exception"], vx_no w = true → w.before args s = true from List.forall_mem_append.mpr ⟨List.forall_mem_append.mpr ⟨List.forall_mem_append.mpr ⟨List.forall_mem_append.mpr ⟨List.forall_mem_cons.mpr ⟨(fun _ => hts _ q103), List.forall_mem_cons.mpr ⟨(fun _ => hts _ q488), List.forall_mem_cons.mpr ⟨(fun _ => hts _ q437), List.forall_mem_cons.mpr ⟨(fun _ => hts _ q448), List.forall_mem_cons.mpr ⟨(fun _ => hts _ q451), List.forall_mem_cons.mpr ⟨(fun _ => hts _ q453), List.forall_mem_cons.mpr ⟨(fun _ => hts _ q489), List.forall_mem_cons.mpr ⟨(fun _ => hts _ q490), List.forall_mem_cons.mpr ⟨(fun _ => hts _ q170), List.forall_mem_cons.mpr ⟨(fun _ => hts _ q171), List.forall_mem_cons.mpr ⟨(fun _ => hts _ q431), List.forall_mem_cons.mpr ⟨(fun _ => hts _ q436), List.forall_mem_cons.mpr ⟨(fun _ => hts _ q449), List.forall_mem_cons.mpr ⟨(fun _ => hts _ q456), List.forall_mem_cons.mpr ⟨(fun _ => hts _ q482), List.forall_mem_cons.mpr ⟨(fun _ => hts _ q457), List.forall_mem_cons.mpr ⟨(fun _ => hts _ q483), List.forall_mem_cons.mpr ⟨(fun _ => hts _ q458), List.forall_mem_cons.mpr ⟨(fun _ => hts _ q484), List.forall_mem_cons.mpr ⟨(fun _ => hts _ q432), List.forall_mem_cons.mpr ⟨(fun h9 => absurd h9 (by decide +kernel)), List.forall_mem_cons.mpr ⟨(fun _ => hts _ q434), List.forall_mem_cons.mpr ⟨(fun h9 => absurd h9 (by decide +kernel)), List.forall_mem_cons.mpr ⟨(fun _ => hts _ q485), (fun _ h9 => absurd h9 List.not_mem_nil)⟩⟩⟩⟩⟩⟩⟩⟩⟩⟩⟩⟩⟩⟩⟩⟩⟩⟩⟩⟩⟩⟩⟩⟩, List.forall_mem_cons.mpr ⟨(fun _ => hts _ q429), List.forall_mem_cons.mpr ⟨(fun _ => hts _ q430), List.forall_mem_cons.mpr ⟨(fun _ => hts _ q455), List.forall_mem_cons.mpr ⟨(fun _ => hts _ q485), (fun _ h9 => absurd h9 List.not_mem_nil)⟩⟩⟩⟩⟩, List.forall_mem_append.mpr ⟨List.forall_mem_cons.mpr ⟨(fun _ => hts _ q532), List.forall_mem_cons.mpr ⟨(fun _ => hts _ q533), List.forall_mem_cons.mpr ⟨(fun _ => hts _ q534), List.forall_mem_cons.mpr ⟨(fun _ => hts _ q423), List.forall_mem_cons.mpr ⟨(fun _ => va_Nw.use rfl (hG.1.2.1.1 _ qn476)), (fun _ h9 => absurd h9 List.not_mem_nil)⟩⟩⟩⟩⟩, List.forall_mem_append.mpr ⟨List.forall_mem_cons.mpr ⟨(fun _ => hts _ q423), List.forall_mem_cons.mpr ⟨(fun _ => hts _ q424), List.forall_mem_cons.mpr ⟨(fun _ => hts _ q425), List.forall_mem_cons.mpr ⟨(fun _ => hts _ q426), List.forall_mem_cons.mpr ⟨(fun _ => va_Nw.use rfl (hG.1.2.1.1 _ qn478)), (fun _ h9 => absurd h9 List.not_mem_nil)⟩⟩⟩⟩⟩, List.forall_mem_cons.mpr ⟨(fun _ => hts _ q426), List.forall_mem_cons.mpr ⟨(fun _ => hts _ q427), List.forall_mem_cons.mpr ⟨(fun _ => hts _ q428), List.forall_mem_cons.mpr ⟨(fun _ => hts _ q429), List.forall_mem_cons.mpr ⟨(fun _ => va_Nw.use rfl (hG.1.2.1.1 _ qn480)), (fun _ h9 => absurd h9 List.not_mem_nil)⟩⟩⟩⟩⟩⟩⟩⟩, List.forall_mem_cons.mpr ⟨(fun _ => hts _ q108), List.forall_mem_cons.mpr ⟨(fun _ => hts _ q491), List.forall_mem_cons.mpr ⟨(fun _ => hts _ q492), List.forall_mem_cons.mpr ⟨(fun _ => hts _ q493), List.forall_mem_cons.mpr ⟨(fun _ => hts _ q495), List.forall_mem_cons.mpr ⟨(fun _ => hts _ q494), List.forall_mem_cons.mpr ⟨(fun _ => hts _ q496), (fun _ h9 => absurd h9 List.not_mem_nil)⟩⟩⟩⟩⟩⟩⟩⟩, List.forall_mem_cons.mpr ⟨(fun _ => hts _ q110), List.forall_mem_cons.mpr ⟨(fun _ => hts _ q531), List.forall_mem_cons.mpr ⟨(fun _ => va_Nw.use rfl (hG.1.2.1.1 _ qn542)), List.forall_mem_cons.mpr ⟨(fun _ => hts _ q543), List.forall_mem_cons.mpr ⟨(fun _ => hts _ q445), List.forall_mem_cons.mpr ⟨(fun _ => hts _ q537), List.forall_mem_cons.mpr ⟨(fun _ => hts _ q538), List.forall_mem_cons.mpr ⟨(fun _ => hts _ q540), List.forall_mem_cons.mpr ⟨(fun _ => hts _ q536), List.forall_mem_cons.mpr ⟨(fun h9 => absurd h9 (by decide +kernel)), List.forall_mem_cons.mpr ⟨(fun h9 => absurd h9 (by decide +kernel)), List.forall_mem_cons.mpr ⟨(fun _ => hts _ q487), List.forall_mem_cons.mpr ⟨(fun _ => hts _ q486), List.forall_mem_cons.mpr ⟨(fun _ => hts _ q535), (fun _ h9 => absurd h9 List.not_mem_nil)⟩⟩⟩⟩⟩⟩⟩⟩⟩⟩⟩⟩⟩⟩⟩) w h1 h2
theorem exw_N_ok : ∀ w ∈ vx_atM "java/lang/NegativeArraySizeException" ["java/lang/RuntimeException", "java/lang/Exception"], vx_ot w = true := List.all_eq_true.mp (by decide +kernel)
theorem exw_C (hts : ∀ w ∈ lw_all, w.before args s = true) (hG : gW X F V ws s H locs) : ∀ w ∈ vx_atM "java/lang/ClassCastException" ["java/lang/RuntimeException", "java/lang/Exception"], w.before args s = true := by
  intro w hw
  obtain ⟨h1, h2⟩ := List.mem_filter.mp hw
  exact (show ∀ w ∈ Bundle.messageArmAtoms "java/lang/ClassCastException" ["java/lang/RuntimeException", "java/lang/Exception"], vx_no w = true → w.before args s = true from List.forall_mem_append.mpr ⟨List.forall_mem_append.mpr ⟨List.forall_mem_append.mpr ⟨List.forall_mem_append.mpr ⟨List.forall_mem_cons.mpr ⟨(fun _ => hts _ q103), List.forall_mem_cons.mpr ⟨(fun _ => hts _ q488), List.forall_mem_cons.mpr ⟨(fun _ => hts _ q437), List.forall_mem_cons.mpr ⟨(fun _ => hts _ q448), List.forall_mem_cons.mpr ⟨(fun _ => hts _ q451), List.forall_mem_cons.mpr ⟨(fun _ => hts _ q453), List.forall_mem_cons.mpr ⟨(fun _ => hts _ q489), List.forall_mem_cons.mpr ⟨(fun _ => hts _ q490), List.forall_mem_cons.mpr ⟨(fun _ => hts _ q170), List.forall_mem_cons.mpr ⟨(fun _ => hts _ q171), List.forall_mem_cons.mpr ⟨(fun _ => hts _ q431), List.forall_mem_cons.mpr ⟨(fun _ => hts _ q436), List.forall_mem_cons.mpr ⟨(fun _ => hts _ q449), List.forall_mem_cons.mpr ⟨(fun _ => hts _ q456), List.forall_mem_cons.mpr ⟨(fun _ => hts _ q482), List.forall_mem_cons.mpr ⟨(fun _ => hts _ q457), List.forall_mem_cons.mpr ⟨(fun _ => hts _ q483), List.forall_mem_cons.mpr ⟨(fun _ => hts _ q458), List.forall_mem_cons.mpr ⟨(fun _ => hts _ q484), List.forall_mem_cons.mpr ⟨(fun _ => hts _ q432), List.forall_mem_cons.mpr ⟨(fun h9 => absurd h9 (by decide +kernel)), List.forall_mem_cons.mpr ⟨(fun _ => hts _ q434), List.forall_mem_cons.mpr ⟨(fun h9 => absurd h9 (by decide +kernel)), List.forall_mem_cons.mpr ⟨(fun _ => hts _ q485), (fun _ h9 => absurd h9 List.not_mem_nil)⟩⟩⟩⟩⟩⟩⟩⟩⟩⟩⟩⟩⟩⟩⟩⟩⟩⟩⟩⟩⟩⟩⟩⟩, List.forall_mem_cons.mpr ⟨(fun _ => hts _ q429), List.forall_mem_cons.mpr ⟨(fun _ => hts _ q430), List.forall_mem_cons.mpr ⟨(fun _ => hts _ q455), List.forall_mem_cons.mpr ⟨(fun _ => hts _ q485), (fun _ h9 => absurd h9 List.not_mem_nil)⟩⟩⟩⟩⟩, List.forall_mem_append.mpr ⟨List.forall_mem_cons.mpr ⟨(fun _ => hts _ q603), List.forall_mem_cons.mpr ⟨(fun _ => hts _ q604), List.forall_mem_cons.mpr ⟨(fun _ => hts _ q605), List.forall_mem_cons.mpr ⟨(fun _ => hts _ q423), List.forall_mem_cons.mpr ⟨(fun _ => va_Nw.use rfl (hG.1.2.1.1 _ qn476)), (fun _ h9 => absurd h9 List.not_mem_nil)⟩⟩⟩⟩⟩, List.forall_mem_append.mpr ⟨List.forall_mem_cons.mpr ⟨(fun _ => hts _ q423), List.forall_mem_cons.mpr ⟨(fun _ => hts _ q424), List.forall_mem_cons.mpr ⟨(fun _ => hts _ q425), List.forall_mem_cons.mpr ⟨(fun _ => hts _ q426), List.forall_mem_cons.mpr ⟨(fun _ => va_Nw.use rfl (hG.1.2.1.1 _ qn478)), (fun _ h9 => absurd h9 List.not_mem_nil)⟩⟩⟩⟩⟩, List.forall_mem_cons.mpr ⟨(fun _ => hts _ q426), List.forall_mem_cons.mpr ⟨(fun _ => hts _ q427), List.forall_mem_cons.mpr ⟨(fun _ => hts _ q428), List.forall_mem_cons.mpr ⟨(fun _ => hts _ q429), List.forall_mem_cons.mpr ⟨(fun _ => va_Nw.use rfl (hG.1.2.1.1 _ qn480)), (fun _ h9 => absurd h9 List.not_mem_nil)⟩⟩⟩⟩⟩⟩⟩⟩, List.forall_mem_cons.mpr ⟨(fun _ => hts _ q108), List.forall_mem_cons.mpr ⟨(fun _ => hts _ q491), List.forall_mem_cons.mpr ⟨(fun _ => hts _ q492), List.forall_mem_cons.mpr ⟨(fun _ => hts _ q493), List.forall_mem_cons.mpr ⟨(fun _ => hts _ q495), List.forall_mem_cons.mpr ⟨(fun _ => hts _ q494), List.forall_mem_cons.mpr ⟨(fun _ => hts _ q496), (fun _ h9 => absurd h9 List.not_mem_nil)⟩⟩⟩⟩⟩⟩⟩⟩, List.forall_mem_cons.mpr ⟨(fun _ => hts _ q116), List.forall_mem_cons.mpr ⟨(fun _ => hts _ q602), List.forall_mem_cons.mpr ⟨(fun _ => va_Nw.use rfl (hG.1.2.1.1 _ qn613)), List.forall_mem_cons.mpr ⟨(fun _ => hts _ q614), List.forall_mem_cons.mpr ⟨(fun _ => hts _ q442), List.forall_mem_cons.mpr ⟨(fun _ => hts _ q608), List.forall_mem_cons.mpr ⟨(fun _ => hts _ q609), List.forall_mem_cons.mpr ⟨(fun _ => hts _ q611), List.forall_mem_cons.mpr ⟨(fun _ => hts _ q607), List.forall_mem_cons.mpr ⟨(fun h9 => absurd h9 (by decide +kernel)), List.forall_mem_cons.mpr ⟨(fun h9 => absurd h9 (by decide +kernel)), List.forall_mem_cons.mpr ⟨(fun _ => hts _ q487), List.forall_mem_cons.mpr ⟨(fun _ => hts _ q486), List.forall_mem_cons.mpr ⟨(fun _ => hts _ q606), (fun _ h9 => absurd h9 List.not_mem_nil)⟩⟩⟩⟩⟩⟩⟩⟩⟩⟩⟩⟩⟩⟩⟩) w h1 h2
theorem exw_C_ok : ∀ w ∈ vx_atM "java/lang/ClassCastException" ["java/lang/RuntimeException", "java/lang/Exception"], vx_ot w = true := List.all_eq_true.mp (by decide +kernel)
/-- an array's place that isn't: what is raised then -/
theorem g_aioobe {z : Int32} {n : Nat} (hx : p.tables.exec = Jvm.exec) (hst : l.stackTraces = false) (hts : ∀ w ∈ lw_all, w.before args s = true) (hG : gW X F V ws s H locs) (hsz : ls.size = c.maxLocals) (hn : n < 1000) (hfr : 7 < R.frames) (hlo : (rest.map fun v => v.category).sum + 10240 ≤ R.locals) (hcs : cells + 3 ≤ R.cells ∧ slots + 222 ≤ R.slots) (hlocks : meth.locks = false)
    (k : ∀ (H1 : Heap) (q9 : Nat) (ce : Cell), gW X F V ws s H1 locs → exC "java/lang/ArrayIndexOutOfBoundsException" s H1 ce q9 → vx_W p l e R s m args below meth c H1 locs (cells + 3) (slots + 222) Q (F0 m pc ls rest) q9) : ∀ tx : String, tx = (toString "Index " ++ toString z ++ toString " out of bounds for length " ++ toString n : String) → vx_Note p l e R s m args below meth c H locs cells slots Q (F0 m pc ls rest) "java/lang/ArrayIndexOutOfBoundsException" tx := fun tx htx =>
  g_raise (nb := 212) hx hst (by decide +kernel) (fun n hn => by simp only [List.mem_cons, List.not_mem_nil, or_false] at hn; rcases hn with rfl | rfl | rfl <;> decide +kernel) ⟨by decide +kernel, by decide +kernel⟩ (exw_A hts hG) exw_A_ok hG hsz ⟨by rw [htx]; exact index_text_modelled z n, by rw [htx]; exact index_text_bytes z (by omega), by decide⟩ ⟨hfr, by decide⟩ hlo hcs hlocks k
theorem vpout {z : Int} {n : Nat} (h : (z < 0 ∨ (n : Int) ≤ z) ∧ -2147483648 ≤ z ∧ z < 2147483648 ∧ n < 2147483648) : ¬ vp_in (zI z) n := by
  intro q
  apply q
  rcases h.1 with h1 | h1
  · exact Or.inl (by rw [zI_0]; exact (zI_lt ⟨⟨by omega, by omega⟩, by decide⟩).mpr h1)
  · refine Or.inr ?_
    rw [show z = ((z.toNat : Nat) : Int) by omega, zI_clamp (by omega)]
    omega
end GE
/-- a contract that may throw, from the method's entry -/
theorem vx_Met.g {l : Launch} {y : MethodName} {cc : ByteArray} {maxL : Nat} {ret : Option FieldType} {rm : Room} {Qc : Array Value → State → Outcome → State → Prop} {XC : String → Addr → State → State → Prop} {mc ms : Nat} {X : gX} {F : gF} {V : gV} {ws : va_W} {av : List Value} (hy : plainName y.cls = true) (hlen : (lg_sl av).length ≤ maxL)
    (body : ∀ (p : Program) (e : Env) (s : State) (m : MethodId) (below : List Frame) (meth : Method) (c : Code) (ls : Array Slot), p.tables.exec = Jvm.exec → c.code = cc → meth.sig.returnType = ret → (∀ w ∈ lw_all, w.before av.toArray s = true) → s.vm.findClass y.cls = some m.cls → meth.locks = false → c.maxLocals = maxL → meth.name = y.name → (∀ x ∈ c.exceptionTable.toList, False) → gW X F V ws s s.heap [] → lv_has ls maxL (lv_args 0 av) →
      W p l e rm s m av.toArray below meth c s.heap [] 0 0 (vx_MQ below Qc XC av.toArray s mc ms (gA X)) (F0 m 0 ls [])) : vx_Met l y (ws_ y cc maxL ret) rm (gP X F V ws av) Qc XC mc ms (gA X) := by
  refine vx_ofW (cc := cc) (maxL := maxL) (ret := ret) hy rfl ?_
  intro p e s m args below meth c s₁ B hml hnt hv
  obtain ⟨rfl, hG⟩ := hv
  have hts := atoms_spec (ws := ws_ y cc maxL ret) B.pre
  rw [lg_entry_eq]
  exact body p e s m below meth c _ B.exec B.bytes B.returns (fun w h => hts w (List.mem_cons_of_mem _ h)) (findClass_of_methodNamed B.named) B.notSynchronized hml (name_of_methodNamed B.named B.method).1 hnt (gW.in hG) (lv_entry av hlen)
/-- .. of a method with handlers -/
theorem vx_Met.gH {l : Launch} {y : MethodName} {cc : ByteArray} {maxL : Nat} {ret : Option FieldType} {hh : List (Nat × Nat × Nat × Nat)} {rm : Room} {Qc : Array Value → State → Outcome → State → Prop} {XC : String → Addr → State → State → Prop} {mc ms : Nat} {X : gX} {F : gF} {V : gV} {ws : va_W} {av : List Value} (hy : plainName y.cls = true) (hlen : (lg_sl av).length ≤ maxL)
    (body : ∀ (p : Program) (e : Env) (s : State) (m : MethodId) (below : List Frame) (meth : Method) (c : Code) (ls : Array Slot), p.tables.exec = Jvm.exec → c.code = cc → meth.sig.returnType = ret → (∀ w ∈ lw_all, w.before av.toArray s = true) → s.vm.findClass y.cls = some m.cls → meth.locks = false → c.maxLocals = maxL → meth.name = y.name → c.exceptionTable.toList = tableOf hh → gW X F V ws s s.heap [] → lv_has ls maxL (lv_args 0 av) →
      W p l e rm s m av.toArray below meth c s.heap [] 0 0 (vx_MQ below Qc XC av.toArray s mc ms (gA X)) (F0 m 0 ls [])) : vx_Met l y (wsW_ y cc maxL ret hh) rm (gP X F V ws av) Qc XC mc ms (gA X) := by
  refine vx_ofWH (cc := cc) (maxL := maxL) (ret := ret) (hh := hh) hy rfl ?_
  intro p e s m args below meth c s₁ B hml hv
  obtain ⟨rfl, hG⟩ := hv
  have hts := atoms_spec (ws := wsW_ y cc maxL ret hh) B.pre
  rw [lg_entry_eq]
  exact body p e s m below meth c _ B.exec B.bytes B.returns (fun w h => hts w (List.mem_cons_of_mem _ h)) (findClass_of_methodNamed B.named) B.notSynchronized hml (name_of_methodNamed B.named B.method).1 (vx_table (x := y) B (hts _ List.mem_cons_self)) (gW.in hG) (lv_entry av hlen)
section GE2
variable {p : Program} {l : Launch} {e : Env} {R : Room} {s : State} {m : MethodId} {args : Array Value} {below : List Frame} {meth : Method} {c : Code} {H : Heap} {locs : List Loc} {cells slots : Nat} {Q : State → Prop}
variable {cc : ByteArray} {pc : Nat} {ls : Array Slot} {rest : List Value} {X : gX} {F : gF} {V : gV} {ws : va_W} {a : Nat}
theorem va_rf_narA (o : Option Nat) (t : FieldType) : narrow (.array t) (va_rf o) = va_rf o := by cases o <;> rfl
theorem va_rf_fitA (o : Option Nat) (t : FieldType) : fits (.array t) (va_rf o) = true := by cases o <;> rfl
/-- a static of which only 'a reference or null' is known -/
theorem g_getZq (hx : p.tables.exec = Jvm.exec) (hb : c.code = cc) {C n d own : String} {index : Nat} (hZ : vx_Zq C n d (gA X) s s.heap) (hG : gW X F V ws s H locs) (hown : s.vm.findClass own = some m.cls) (hlink : (Cond.fieldLink own index C n d).before args s = true) (hdg : decode cc pc = .ok (.getstatic index, 3))
    (kk : ∀ o : Option Nat, W p l e R s m args below meth c H locs cells slots Q (F0 m (pc + 3) ls (va_rf o :: rest))) : W p l e R s m args below meth c H locs cells slots Q (F0 m pc ls rest) := by
  rcases hZ.1 with h | ⟨t, h⟩
  · exact va_gets hx hb h hG.2.2 hown hlink (fun _ h9 => h9) hdg (kk none)
  · exact va_gets hx hb h hG.2.2 hown hlink (fun _ h9 => h9) hdg (kk (some t))
/-- a reference array's place that isn't -/
theorem g_aaldZ (hx : p.tables.exec = Jvm.exec) (hb : c.code = cc) (hG : gW X F V ws s H locs) (t0 : Nat) {n : Nat} {f : Nat → Option Nat} {cA : ClassId} {E : String} (ht : (gTY X)[t0]? = some (cA, .object E)) (hat : va_at X.1 gCL (a, aR cA n f) H) {i : Int32} (hout : ¬ vp_in i n) (hdg : decode cc pc = .ok (.aaload, 1))
    (k : ∀ tx : String, tx = (toString "Index " ++ toString i ++ toString " out of bounds for length " ++ toString n : String) → vx_Note p l e R s m args below meth c H locs cells slots Q (F0 m pc ls rest) "java/lang/ArrayIndexOutOfBoundsException" tx) : W p l e R s m args below meth c H locs cells slots Q (F0 m pc ls (.int i :: .ref a :: rest)) := by
  intro T hT X9
  obtain ⟨t, st, q⟩ := k _ rfl T hT X9
  refine ⟨t, ?_, q⟩
  have h1 := X9.aaloadOut hx (by rw [hT]; exact hat) ((hG.K.2 t0 _ ht).1 n (fun j => va_rf (f j))) (j := i) (by show (i < 0 ∨ (arrV _ _ _).slots.size ≤ _); rw [arrV_size]; exact Classical.byContradiction hout) (g := F0 m pc ls (.int i :: .ref a :: rest)) rfl (rest := rest) rfl (by rw [hb]; exact hdg) t
  simp only [arrV_size] at h1
  exact h1 st
/-! a cast that fails -/
theorem findClass_full {vm : Vm} {name : String} {c : ClassId} {k : Class} (h : vm.findClass name = some c) (hk : vm.classes[c]? = some k) : k.name = name ∧ k.hidden = none ∧ k.loader = none := by
  obtain ⟨hlt, hp, _⟩ := Array.findIdx?_eq_some_iff_getElem.mp h
  have e : vm.classes[c] = k := (Array.getElem?_eq_some_iff.mp hk).2
  rw [e] at hp
  simp only [Bool.and_eq_true, beq_iff_eq] at hp
  exact ⟨hp.1.1.1, by simpa using hp.1.1.2, by simpa using hp.2⟩
theorem castOut9 {T : State} (X9 : Stand p l e R s m args below meth c T locs cells slots) (hexec : p.tables.exec = Jvm.exec)
    {own name : String} {index : Nat} (hown : s.vm.findClass own = some m.cls) (hlink : (Cond.classLink own index name).before args s = true)
    {a : Addr} {cell : Cell} {cT : ClassId} {ks : Class} (hcell : T.heap[a]? = some cell) (hobj : cell.vm.isStatics = false) (hks : s.vm.classes[cell.cls]? = some ks) (hcT : s.vm.findClass name = some cT) (hasg : s.vm.assignable cell.cls cT = false)
    {g : JFrame} (hg : g.method = m) {rest : List Value} (hstack : g.stack = .ref a :: rest) (hdg : decode c.code g.pc = .ok (.checkcast index, 3)) :
    ∃ (vm' : Vm) (ks' kt' : Class), Stand p l e R s m args below meth c (T.setVm vm') locs cells slots ∧ s.vm.Alike vm' ∧ vm'.classes[cell.cls]? = some ks' ∧ vm'.classes[cT]? = some kt' ∧
      ∀ target, Steps p.tables e below (((T.setVm vm').setTop g).pushFrame (.throwNew "java/lang/ClassCastException" (some (checkcast.message vm' ks' kt')) none)) target → Steps p.tables e below (T.setTop g) target := by
  have hpl : e.platform.magicAccessors = ({} : Platform).magicAccessors := by rw [X9.admits.platform]
  obtain ⟨c', hc', hcl⟩ := Cond.classLink_spec hown hlink e.platform hpl
  cases hcT.symm.trans hc'
  obtain ⟨dk, _, _, kt, hd, _, _, _, _, hkt, _, hopen⟩ := hcl.here
  have hcl₀ := X9.warmed.classLinks hcl
  have hW' : s.WarmedH (T.vm.noted m.cls index (.cls cT)) := X9.warmed.noted hd hopen (State.rightAt_cls hcl)
  obtain ⟨ks', hks', -⟩ := hW'.alike.2.2 _ _ hks
  obtain ⟨kt', hkt', -⟩ := hW'.alike.2.2 _ _ hkt
  refine ⟨_, ks', kt', X9.noted hW', hW'.alike, hks', hkt', fun target hrest => ?_⟩
  subst hg
  jvm_step X9.here [hexec, hdg, checkcast.wp_cold (e := e) (s := T) (f := g) X9.here.top hstack (resolveClass_links e.toSetting hcl₀) hcl₀.ready,
    checkcast.wp_ready (e := e) (s := T.setVm (T.vm.noted g.method.cls index (.cls cT))) (f := g) X9.here.top hcl₀.ready hstack]
  refine ⟨cell, hcell, VmData.noStatics_of hobj, ks', hks', kt', hkt', ?_⟩
  have h1 : (T.vm.noted g.method.cls index (Resolved.cls cT)).assignable cell.cls cT = false := by rw [hW'.alike.assignable]; exact hasg
  rw [if_neg (by show ¬ (T.vm.noted g.method.cls index (Resolved.cls cT)).assignable cell.cls cT = true; rw [h1]; decide)]
  exact hrest
theorem home_len {vm : Vm} {k : Class} (hm : (vm.modules.all fun m => m.loader.isSome || m.name == "java.base" || !(castPackages_1.any fun p => m.packages.contains p)) = true) (hl : k.loader = none) (hp : packageOf k.name ∈ castPackages_1) : (vm.home k).toList.length ≤ 40 := by
  have key : ∀ x, vm.moduleOf k = some x → x.name = "java.base" := by
    intro x hx
    unfold Vm.moduleOf at hx
    split at hx
    · have := List.find?_some hx
      simpa using this
    · have h1 := List.find?_some hx
      have h2 := List.mem_of_find?_eq_some hx
      have h3 := List.all_eq_true.mp hm x h2
      rw [Bool.and_eq_true] at h1
      have h4 : x.loader = none := by have := h1.1; rw [hl] at this; simpa using this
      rw [h4] at h3
      have h5 : (castPackages_1.any fun p => x.packages.contains p) = true := List.any_eq_true.mpr ⟨_, hp, h1.2⟩
      rw [h5] at h3
      simpa using h3
  unfold Vm.home
  rw [hl]
  cases hq : vm.moduleOf k with
  | none =>
    show ("unnamed module" ++ " of loader " ++ "'bootstrap'").toList.length ≤ 40
    decide +kernel
  | some x =>
    show (("module " ++ x.name) ++ " of loader " ++ "'bootstrap'").toList.length ≤ 40
    rw [key x hq]
    decide +kernel
theorem dotted_len (n : String) : (dotted n).toList.length = n.toList.length := by unfold dotted turned; rw [String.toList_ofList, List.length_map]
theorem cce_text {vm : Vm} {ks kt : Class} (h1 : ks.hidden = none) (h2 : kt.hidden = none) (n1 : ks.name.toList.length ≤ 20) (n2 : kt.name.toList.length ≤ 20) (hh1 : (vm.home ks).toList.length ≤ 40) (hh2 : (vm.home kt).toList.length ≤ 40) : (checkcast.message vm ks kt == notModelled) = false ∧ (stringBytes (stringToUtf16 (checkcast.message vm ks kt))).size ≤ 900 := by
  have s1 : ks.shown = dotted ks.name := by unfold Class.shown; rw [h1]
  have s2 : kt.shown = dotted kt.name := by unfold Class.shown; rw [h2]
  have d1 := dotted_len ks.name
  have d2 := dotted_len kt.name
  have hom : (vm.homes ks kt).toList.length ≤ 140 := by
    unfold Vm.homes
    rw [s1, s2]
    split
    · show (toString (dotted ks.name) ++ toString " and " ++ toString (dotted kt.name) ++ toString " are in " ++ toString (vm.home ks)).toList.length ≤ 140
      simp only [String.toList_append, List.length_append]
      have a1 : (toString " and ").toList.length = 5 := by decide
      have a2 : (toString " are in ").toList.length = 8 := by decide
      have a3 : (toString (dotted ks.name)).toList.length = (dotted ks.name).toList.length := rfl
      have a4 : (toString (dotted kt.name)).toList.length = (dotted kt.name).toList.length := rfl
      have a5 : (toString (vm.home ks)).toList.length = (vm.home ks).toList.length := rfl
      omega
    · show (toString (dotted ks.name) ++ toString " is in " ++ toString (vm.home ks) ++ toString "; " ++ toString (dotted kt.name) ++ toString " is in " ++ toString (vm.home kt)).toList.length ≤ 140
      simp only [String.toList_append, List.length_append]
      have a1 : (toString " is in ").toList.length = 7 := by decide
      have a2 : (toString "; ").toList.length = 2 := by decide
      have a3 : (toString (dotted ks.name)).toList.length = (dotted ks.name).toList.length := rfl
      have a4 : (toString (dotted kt.name)).toList.length = (dotted kt.name).toList.length := rfl
      have a5 : (toString (vm.home ks)).toList.length = (vm.home ks).toList.length := rfl
      have a6 : (toString (vm.home kt)).toList.length = (vm.home kt).toList.length := rfl
      omega
  have e : checkcast.message vm ks kt = toString "class " ++ toString (dotted ks.name) ++ toString " cannot be cast to class " ++ toString (dotted kt.name) ++ toString " (" ++ toString (vm.homes ks kt) ++ toString ")" := by
    unfold checkcast.message
    rw [s1, s2]
  have len : (checkcast.message vm ks kt).toList.length ≤ 220 := by
    rw [e]
    simp only [String.toList_append, List.length_append]
    have a1 : (toString "class ").toList.length = 6 := by decide
    have a2 : (toString " cannot be cast to class ").toList.length = 25 := by decide
    have a3 : (toString (dotted ks.name)).toList.length = (dotted ks.name).toList.length := rfl
    have a4 : (toString (dotted kt.name)).toList.length = (dotted kt.name).toList.length := rfl
    have a5 : (toString (vm.homes ks kt)).toList.length = (vm.homes ks kt).toList.length := rfl
    have a6 : (toString " (").toList.length = 2 := by decide
    have a7 : (toString ")").toList.length = 1 := by decide
    omega
  refine ⟨?_, ?_⟩
  · rw [beq_eq_false_iff_ne]
    intro h
    have h2 := congrArg String.toList h
    rw [e] at h2
    simp only [String.toList_append] at h2
    have h3 : (toString "class ").toList = 'c' :: "lass ".toList := by decide
    have h4 : notModelled.toList = '\u0000' :: " a message that is not modelled".toList := by decide
    rw [h3, h4] at h2
    simp at h2
  · have b1 := stringBytes_size_le (stringToUtf16 (checkcast.message vm ks kt))
    have b2 := utf16_size_le (checkcast.message vm ks kt)
    omega
theorem g_castNo (hx : p.tables.exec = Jvm.exec) (hb : c.code = cc) {own C nm : String} {index : Nat} (hown : s.vm.findClass own = some m.cls) (hlink : (Cond.classLink own index nm).before args s = true) (hnc : va_Nc C nm s) (hr : ∃ cell : Cell, H[a]? = some cell ∧ cell.vm.isStatics = false ∧ s.vm.findClass C = some cell.cls) (hmod : modulesRight_1 s = true) (hC : packageOf C ∈ castPackages_1 ∧ C.toList.length ≤ 20) (hN : packageOf nm ∈ castPackages_1 ∧ nm.toList.length ≤ 20) (hdg : decode cc pc = .ok (.checkcast index, 3))
    (k : ∀ tx : String, (tx == notModelled) = false ∧ (stringBytes (stringToUtf16 tx)).size ≤ 900 ∧ 900 ≤ 1000 → vx_Note p l e R s m args below meth c H locs cells slots Q (F0 m pc ls (.ref a :: rest)) "java/lang/ClassCastException" tx) : W p l e R s m args below meth c H locs cells slots Q (F0 m pc ls (.ref a :: rest)) := by
  obtain ⟨cell, h1, h2, h3⟩ := hr
  obtain ⟨c0, t0, f1, f2, f3⟩ := hnc
  cases h3.symm.trans f1
  intro T hT X9
  obtain ⟨ks, hks, -⟩ := Vm.findClass_spec h3
  obtain ⟨vm', ks', kt', X', hal, g1, g2, st⟩ := castOut9 X9 hx hown hlink (by rw [hT]; exact h1) h2 hks f2 f3 (g := F0 m pc ls (.ref a :: rest)) rfl rfl (by rw [hb]; exact hdg)
  obtain ⟨p1, p2, p3⟩ := findClass_full (vm := vm') (by rw [hal.findClass]; exact h3) g1
  obtain ⟨r1, r2, r3⟩ := findClass_full (vm := vm') (by rw [hal.findClass]; exact f2) g2
  have hmm : (vm'.modules.all fun m => m.loader.isSome || m.name == "java.base" || !(castPackages_1.any fun p => m.packages.contains p)) = true := by
    have e0 : vm'.bare.modules = s.vm.bare.modules := by rw [hal.bare_eq]
    have e : vm'.modules = s.vm.modules := e0
    rw [e]; exact hmod
  obtain ⟨q1, q2⟩ := cce_text (vm := vm') p2 r2 (by rw [p1]; exact hC.2) (by rw [r1]; exact hN.2) (home_len hmm p3 (by rw [p1]; exact hC.1)) (home_len hmm r3 (by rw [r1]; exact hN.1))
  obtain ⟨t, a1, b1⟩ := k _ ⟨q1, q2, by decide⟩ (T.setVm vm') hT X'
  exact ⟨t, st t a1, b1⟩
theorem g_cce {tx : String} (hx : p.tables.exec = Jvm.exec) (hst : l.stackTraces = false) (hts : ∀ w ∈ lw_all, w.before args s = true) (hG : gW X F V ws s H locs) (hsz : ls.size = c.maxLocals) (htext : (tx == notModelled) = false ∧ (stringBytes (stringToUtf16 tx)).size ≤ 900 ∧ 900 ≤ 1000) (hfr : 6 < R.frames) (hlo : (rest.map fun v => v.category).sum + 10240 ≤ R.locals) (hcs : cells + 3 ≤ R.cells ∧ slots + 910 ≤ R.slots) (hlocks : meth.locks = false)
    (k : ∀ (H1 : Heap) (q9 : Nat) (ce : Cell), gW X F V ws s H1 locs → exC "java/lang/ClassCastException" s H1 ce q9 → vx_W p l e R s m args below meth c H1 locs (cells + 3) (slots + 910) Q (F0 m pc ls rest) q9) : vx_Note p l e R s m args below meth c H locs cells slots Q (F0 m pc ls rest) "java/lang/ClassCastException" tx :=
  g_raise (nb := 900) hx hst (by decide +kernel) (fun n hn => by simp only [List.mem_cons, List.not_mem_nil, or_false] at hn; rcases hn with rfl | rfl <;> decide +kernel) ⟨by decide +kernel, by decide +kernel⟩ (exw_C hts hG) exw_C_ok hG hsz htext ⟨hfr, by decide⟩ hlo hcs hlocks k
/-- an array of less than no places -/
theorem g_nase {z : Int32} (hx : p.tables.exec = Jvm.exec) (hst : l.stackTraces = false) (hts : ∀ w ∈ lw_all, w.before args s = true) (hG : gW X F V ws s H locs) (hsz : ls.size = c.maxLocals) (hz : z < 0) (hfr : 6 < R.frames) (hlo : (rest.map fun v => v.category).sum + 10240 ≤ R.locals) (hcs : cells + 3 ≤ R.cells ∧ slots + 60 ≤ R.slots) (hlocks : meth.locks = false)
    (k : ∀ (H1 : Heap) (q9 : Nat) (ce : Cell), gW X F V ws s H1 locs → exC "java/lang/NegativeArraySizeException" s H1 ce q9 → vx_W p l e R s m args below meth c H1 locs (cells + 3) (slots + 60) Q (F0 m pc ls rest) q9) : ∀ tx : String, tx = toString z → vx_Note p l e R s m args below meth c H locs cells slots Q (F0 m pc ls rest) "java/lang/NegativeArraySizeException" tx := fun tx htx =>
  g_raise (nb := 50) hx hst (by decide +kernel) (fun n hn => by simp only [List.mem_cons, List.not_mem_nil, or_false] at hn; rcases hn with rfl | rfl <;> decide +kernel) ⟨by decide +kernel, by decide +kernel⟩ (exw_N hts hG) exw_N_ok hG hsz ⟨by rw [htx]; exact negative_text_modelled hz, by rw [htx]; exact Nat.le_trans (negative_text_bytes z) (by decide), by decide⟩ ⟨hfr, by decide⟩ hlo hcs hlocks k
end GE2

