set_option maxRecDepth 100000
/-! super.m(..) where the superclass has the method from further up -/
theorem sub_refl9 {vm : Vm} {d : ClassId} (f : Nat) : vm.isSubclassAux (f + 1) d d = true := by simp [Vm.isSubclassAux]
theorem sub_step9 {vm : Vm} {c d p : ClassId} {k : Class} (h1 : vm.classes[c]? = some k) (h2 : k.super = some p) {f : Nat} (h : vm.isSubclassAux f p d = true) : vm.isSubclassAux (f + 1) c d = true := by simp [Vm.isSubclassAux, h1, h2, h]
theorem sub_1 {s : State} {args : Array Value} {C D : String} (h : (Cond.superclass C D).before args s = true) : ∀ c d, s.vm.findClass C = some c → s.vm.findClass D = some d → s.vm.isSubclass c d = true := by
  intro c d hc hd
  obtain ⟨p, k, kp, h1, h2, h3, h4, -⟩ := Cond.superclass_spec hc h
  cases hd.symm.trans h1
  have hs : d < s.vm.classes.size := (Array.getElem?_eq_some_iff.mp h3).1
  unfold Vm.isSubclass
  obtain ⟨n, hn⟩ : ∃ n, s.vm.classes.size = n + 1 := ⟨s.vm.classes.size - 1, by have := Nat.lt_of_le_of_lt (Nat.zero_le _) hs; omega⟩
  rw [hn]
  exact sub_step9 h2 h4 (sub_refl9 n)
theorem sub_2 {s : State} {args : Array Value} {C D E : String} (hne : D ≠ E) (h : (Cond.superclass C D).before args s = true) (h' : (Cond.superclass D E).before args s = true) : ∀ c d, s.vm.findClass C = some c → s.vm.findClass E = some d → s.vm.isSubclass c d = true := by
  intro c d hc hd
  obtain ⟨p, k, kp, h1, h2, h3, h4, -⟩ := Cond.superclass_spec hc h
  obtain ⟨p', k', kp', g1, g2, g3, g4, -⟩ := Cond.superclass_spec h1 h'
  cases hd.symm.trans g1
  have hs : p < s.vm.classes.size := (Array.getElem?_eq_some_iff.mp h3).1
  have hs' : d < s.vm.classes.size := (Array.getElem?_eq_some_iff.mp g3).1
  have hn : p ≠ d := by
    intro e
    subst e
    obtain ⟨k1, e1, e2⟩ := Vm.findClass_spec h1
    obtain ⟨k2, e3, e4⟩ := Vm.findClass_spec g1
    cases e1.symm.trans e3
    exact hne (e2.symm.trans e4)
  unfold Vm.isSubclass
  have key : ∀ a b n : Nat, a < n → b < n → a ≠ b → 2 ≤ n := by intro a b n h1 h2 h3; omega
  have k2 := key p d _ hs hs' hn
  obtain ⟨n, hn⟩ : ∃ n, s.vm.classes.size = n + 2 := ⟨s.vm.classes.size - 2, by omega⟩
  rw [hn]
  exact sub_step9 h2 h4 (sub_step9 g2 g4 (sub_refl9 n))
section GSX
variable {p : Program} {l : Launch} {e : Env} {R : Room} {s : State} {m : MethodId} {args : Array Value} {below : List Frame} {meth : Method} {c : Code}
variable {H : Heap} {locs : List Loc} {cells slots : Nat}
theorem va_runSX {y : MethodName} {bytes cc : ByteArray} {maxL nL mc ms n index : Nat} {ret : Option FieldType} {ws' : List Cond} {rm : Room} {Pc : Array Value → State → Prop} {Qc : Array Value → State → Outcome → State → Prop} {free : Addr → Prop} {own C D : String} {cC : ClassId} {b : Addr} {As rest : List Value} {g : JFrame}
    (hat : ClassAt s C cC) (S : CallFix p m c cc nL s args lw_all own) (hM : Met l y (Cond.code y bytes maxL ret :: ws') rm Pc Qc mc ms free) (hG : GoodIn lw_all (Cond.code y bytes maxL ret :: ws'))
    (w1 : Cond.methodLink own index ⟨D, y.name, y.desc⟩ ∈ lw_all) (w2 : Cond.sameMethod D y.cls y.name y.desc ∈ lw_all) (w3 : Cond.superclass own D ∈ lw_all) (w4 : Cond.instanceMethod y ∈ lw_all) (w5 : Cond.initialized y.cls ∈ lw_all)
    (hsub : ∀ d q, s.vm.findClass D = some d → s.vm.findClass y.cls = some q → s.vm.isSubclass d q = true) (hrc : rm.cells = mc) (hrs : rm.slots = ms)
    (hd : y.name ≠ "<init>" ∧ (parseMethodDescriptor y.desc).map (fun d => d.parameters.length) = some n) (hR : rm.frames + 1 ≤ R.frames ∧ 8 + (maxL + 11) + rm.locals ≤ R.locals) (hp : PreV s H C b Pc As)
    (hg : g.method = m) (hn : As.length = n) (hsize : g.locals.size = nL) (hstack : g.stack = As.reverse ++ .ref b :: rest) (hW : 2 * g.monitorRoom + (rest.map fun v => v.category).sum ≤ 8) (hdg : decode cc g.pc = .ok (.invokespecial index, 3)) (hf : cells + mc ≤ R.cells ∧ slots + ms ≤ R.slots) :
    va_Run p l e R s m args below meth c H locs cells slots mc ms g rest (Qc (Value.ref b :: As).toArray) (free) := by
  obtain ⟨hx, hb, hml, ho, hts⟩ := S
  have hcode : (Cond.code y bytes maxL ret).before args s = true := hts _ (hG _ List.mem_cons_self).1
  have hlen : ∀ sig, parseMethodDescriptor y.desc = some sig → n = sig.parameters.length := fun sig h => by
    have h2 := hd.2
    rw [h] at h2
    exact (Option.some.inj h2).symm
  have hK : Back l R p e below s args y 3 8 (PreOf R mc ms Pc) (PostOf Qc mc ms free) := back_of (bytes := bytes) (maxL := maxL) (ret := ret) hM hp.1 hrc hrs hR.1 hR.2 (pay_in hts hG) List.mem_cons_self (fun a' U hW => word_at hW (Or.inl (by first | rfl | simp [Cond.onTables, Cond.keeps, Cond.steady])) (hts _ w5))
  obtain ⟨-, ⟨cellB, hcB, hoB, hclB⟩, hPc⟩ := hp
  obtain ⟨hfc, kB, hkB, -⟩ := hat
  cases hfc.symm.trans hclB
  obtain ⟨mk, methM, hnamed, hmethM, hstM, habM⟩ := Cond.instanceMethod_spec (hts _ w4)
  obtain ⟨methM', cM, hmethM', -, -, -, -, -, -, hsigM⟩ := Cond.code_spec hnamed hcode
  cases hmethM.symm.trans hmethM'
  obtain ⟨ps, dk, kp, hps, hdk, hkp, hsuper, -, -, hnid⟩ := Cond.superclass_spec ho (hts _ w3)
  have hn' : s.methodNamed? ⟨y.cls, y.name, y.desc⟩ = some mk := hnamed
  have hs9 : s.vm.isSubclass ps mk.cls = true := hsub ps mk.cls hps (findClass_of_methodNamed hnamed)
  intro T hT X
  obtain ⟨vm₁, X₁, hstep₁⟩ := X.invokespecialUp hx (owner := y.cls) ho (hts _ w1) (hts _ w2) hn' hmethM hstM habM hd.1 hdk hnid hps hsuper hs9 (a := b) (cell := cellB) (by rw [hT]; exact hcB)
    (fun z h => by rw [h] at hoB; cases hoB) hkB (g := g) hg (argsL := As) (rest := rest) (hn.trans (hlen _ hsigM)) hstack (by rw [hb]; exact hdg)
  obtain ⟨v, B, X', hpost, hsteps⟩ := hK m meth c ⟨T.setVm vm₁, locs, cells, slots⟩ { g with stack := rest } (.invokespecial index) mk (Value.ref b :: As).toArray X₁ hg (hsize.trans hml.symm) (by rw [hb]; exact hdg) hW (X₁.named hnamed) ⟨hf.1, hf.2, hPc (T.setVm vm₁) hT X₁.warmed⟩
  obtain ⟨U', l2, c2, s2⟩ := B
  obtain ⟨g', mk', t, L, e1, e2, hq, h1, hL, h2, h3⟩ := hpost
  dsimp only [Pt.U, Pt.locs, Pt.cells, Pt.slots] at X' e1 e2 h1 h2 h3 hsteps
  subst h1; subst h2; subst h3
  exact ⟨v, (T.setVm vm₁).calling g' mk' (Value.ref b :: As).toArray, t, U', L, hT, X', hL, e1, e2, hq, fun target h => hstep₁ _ (by rw [doInvoke_state]; exact hsteps.trans h)⟩
end GSX
/-! the trace, in the cells of roles 2 and 3 -/
def xTr (X : gX) (V : gV) (tr tb : Nat) (t : List Int) : Prop := V 2 = some (tr, oB 1 [.ref tb, .int (zI (t.length : Int))]) ∧ t.length ≤ 20 ∧ ∃ f : Nat → Int32, V 3 = some (tb, aI (gT X 0) 20 f) ∧ ∀ i, i < t.length → f i = zI (t.getD i 0)
def vx23 (V U : gV) : Prop := ∀ r, r ≠ 2 → r ≠ 3 → U r = V r
theorem vx23.tr {V U W : gV} (h : vx23 V U) (k : vx23 U W) : vx23 V W := fun r a b => (k r a b).trans (h r a b)
theorem xTr.app {X : gX} {U : gV} {tr tb : Nat} {t u v w : List Int} (h : xTr X U tr tb (t ++ u ++ v)) (e : u ++ v = w) : xTr X U tr tb (t ++ w) := by rw [← e, ← List.append_assoc]; exact h
theorem xTr.app3 {X : gX} {U : gV} {tr tb : Nat} {t u v x w : List Int} (h : xTr X U tr tb (t ++ u ++ v ++ x)) (e : u ++ (v ++ x) = w) : xTr X U tr tb (t ++ w) := by rw [← e, ← List.append_assoc, ← List.append_assoc]; exact h
