/-! ROWS FOR THE COMPONENT: calls of super methods, overriding methods, through interfaces; System.arraycopy -/
set_option maxRecDepth 100000
theorem lw_SU {own : String} {idx : Nat} {y : MethodName} {b : ByteArray} {L : Nat} {r : Option FieldType} (h1 : Cond.methodLink own idx y ∈ lw_all) (h2 : Cond.sameMethod y.cls y.cls y.name y.desc ∈ lw_all) (h3 : Cond.superclass own y.cls ∈ lw_all) (h4 : Cond.instanceMethod y ∈ lw_all) (h5 : Cond.initialized y.cls ∈ lw_all) (h6 : Cond.code y b L r ∈ lw_all) : GoodIn lw_all (va_wsSU own idx y (ws_ y b L r)) := by
  refine lw_app ?_ (lw_meth h6)
  intro w hw
  simp only [List.mem_cons, List.not_mem_nil, or_false] at hw
  rcases hw with e | e | e | e | e
  · rw [e]; exact h1
  · rw [e]; exact h2
  · rw [e]; exact h3
  · rw [e]; exact h4
  · rw [e]; exact h5
theorem lw_U {own : String} {idx : Nat} {C owner : String} {x y : MethodName} {b : ByteArray} {L : Nat} {r : Option FieldType} (h1 : Cond.methodLink own idx x ∈ lw_all) (h2 : Cond.sameMethod x.cls owner x.name x.desc ∈ lw_all) (h3 : Cond.selects C x y ∈ lw_all) (h4 : Cond.instanceMethod y ∈ lw_all) (h5 : Cond.initialized y.cls ∈ lw_all) (h6 : Cond.code y b L r ∈ lw_all) : GoodIn lw_all (va_wsU own idx C owner x y (ws_ y b L r)) := by
  refine lw_app ?_ (lw_meth h6)
  intro w hw
  simp only [List.mem_cons, List.not_mem_nil, or_false] at hw
  rcases hw with e | e | e | e | e
  · rw [e]; exact h1
  · rw [e]; exact h2
  · rw [e]; exact h3
  · rw [e]; exact h4
  · rw [e]; exact h5
theorem lw_O {own : String} {idx : Nat} {C owner : String} {x y : MethodName} {b : ByteArray} {L : Nat} {r : Option FieldType} (h1 : Cond.methodLink own idx x ∈ lw_all) (h2 : Cond.sameMethod x.cls owner x.name x.desc ∈ lw_all) (h7 : Cond.instanceMethod ⟨owner, x.name, x.desc⟩ ∈ lw_all) (h3 : Cond.selects C x y ∈ lw_all) (h4 : Cond.instanceMethod y ∈ lw_all) (h5 : Cond.initialized y.cls ∈ lw_all) (h6 : Cond.code y b L r ∈ lw_all) : GoodIn lw_all (va_wsO own idx C owner x y (ws_ y b L r)) := by
  refine lw_app ?_ (lw_meth h6)
  intro w hw
  simp only [List.mem_cons, List.not_mem_nil, or_false] at hw
  rcases hw with e | e | e | e | e | e
  · rw [e]; exact h1
  · rw [e]; exact h2
  · rw [e]; exact h7
  · rw [e]; exact h3
  · rw [e]; exact h4
  · rw [e]; exact h5
theorem lw_F {own : String} {idx : Nat} {C : String} {x y : MethodName} {b : ByteArray} {L : Nat} {r : Option FieldType} (h1 : Cond.methodLink own idx x ∈ lw_all) (h3 : Cond.selects C x y ∈ lw_all) (h4 : Cond.instanceMethod y ∈ lw_all) (h5 : Cond.initialized y.cls ∈ lw_all) (h6 : Cond.code y b L r ∈ lw_all) : GoodIn lw_all (va_wsF own idx C x y (ws_ y b L r)) := by
  refine lw_app ?_ (lw_meth h6)
  intro w hw
  simp only [List.mem_cons, List.not_mem_nil, or_false] at hw
  rcases hw with e | e | e | e
  · rw [e]; exact h1
  · rw [e]; exact h3
  · rw [e]; exact h4
  · rw [e]; exact h5
section G6
variable {p : Program} {l : Launch} {e : Env} {R : Room} {s : State} {m : MethodId} {args : Array Value} {below : List Frame} {meth : Method} {c : Code} {H : Heap} {locs : List Loc} {cells slots : Nat} {Q : State → Prop}
variable {cc : ByteArray} {pc : Nat} {ls : Array Slot} {rest : List Value} {X : gX} {F : gF} {V : gV} {ws : va_W} {a : Nat}
theorem gW.ext9 {L : List Loc} {a i : Nat} (h : gW X F V ws s H (locs ++ [⟨a, i⟩])) (hL : ∀ z ∈ L, z.base = a) : gW X F V ws s H (locs ++ L) := ⟨h.1, h.2.1, h.2.2.1, h.2.2.2.1, fun z hz => by
  rcases List.mem_append.mp hz with q | q
  · exact h.2.2.2.2 z (List.mem_append_left _ q)
  · rw [hL z q]; exact h.2.2.2.2 ⟨a, i⟩ (List.mem_append_right _ List.mem_cons_self)⟩
theorem g_cls (hG : gW X F V ws s H locs) {ci : Nat} {q : vw_C} (hc : gCL[ci]? = some q) : ClassAt s q.1 (X.1.1 ci) := (hG.K.1 ci _ hc).2
/-- a run of cells is copied from one array into another one, or within one -/
theorem g_copy0 {α : Type} (mk : α → Value) (hx : p.tables.exec = Jvm.exec) (hb : c.code = cc) (hml : c.maxLocals = ls.size) {own : String} {index : Nat} (hown : s.vm.findClass own = some m.cls) (hlink : (Cond.methodLink own index arraycopyName).before args s = true) (hnat : (Cond.native arraycopyName).before args s = true) (hstat : (Cond.static arraycopyName).before args s = true) (hini : (Cond.initialized "java/lang/System").before args s = true) (hG : gW X F V ws s H locs) (t0 t1 : Nat) {a0 : Nat} {c0 c1 : ClassId} {n0 n1 : Nat} {f g : Nat → α} {ty0 ty1 : FieldType} (ht0 : (gTY X)[t0]? = some (c0, ty0)) (ht1 : (gTY X)[t1]? = some (c1, ty1)) (hty : ((refKind ty0 != refKind ty1) || (!refKind ty0 && ty0 != ty1)) = false)
    (hc0 : H[a0]? = some (arrV c0 n0 (fun j => mk (f j)))) (hc1 : H[a]? = some (arrV c1 n1 (fun j => mk (g j)))) {x y z : Int} (sp dp n : Nat) (hz : x = (sp : Int) ∧ y = (dp : Int) ∧ z = (n : Int) ∧ sp + n ≤ n0 ∧ dp + n ≤ n1 ∧ n0 < 2147483648 ∧ n1 < 2147483648)
    (hok : ∀ (T : State) (comp : ClassId) (kA : Class), T.heap = H → s.vm.Alike T.vm → s.vm.classes[c1]? = some kA → kA.kind = .array comp ty1 → ∀ i, i < n → fits ty1 (mk (f (sp + i))) = true ∧ T.takes comp (mk (f (sp + i))))
    (hfr : 1 ≤ R.frames ∧ (rest.map fun v => v.category).sum + (nativeFrameWords "java/lang/System" "arraycopy" 5 + 11) ≤ R.locals) (d : decode cc pc = .ok (.invokestatic index, 3))
    (kk : ∀ (H1 : Heap) (L : List Loc), H1[a]? = some (arrV c1 n1 (fun j => mk (va_cpy f g sp dp n j))) → H1.size = H.size → (∀ q : Nat, q ≠ a → H1[q]? = H[q]?) → (∀ z ∈ L, z.base = a) → W p l e R s m args below meth c H1 (locs ++ L) cells slots Q (F0 m (pc + 3) ls rest)) : W p l e R s m args below meth c H locs cells slots Q (F0 m pc ls (.int (zI z) :: .int (zI y) :: .ref a :: .int (zI x) :: .ref a0 :: rest)) := by
  obtain ⟨rfl, rfl, rfl, h4, h5, h6, h7⟩ := hz
  have nz : ∀ k : Nat, k < 2147483648 → ¬ zI (k : Int) < 0 ∧ (zI (k : Int)).toNatClampNeg = k ∧ (zI (k : Int)).toInt = k := fun k hk => ⟨fun q => by
    rw [zI_0, zI_lt ⟨⟨by omega, by omega⟩, by decide⟩] at q; omega, zI_clamp hk, zI_toInt ⟨by omega, by omega⟩⟩
  obtain ⟨s1, s2, s3⟩ := nz sp (by omega)
  obtain ⟨d1, d2, d3⟩ := nz dp (by omega)
  obtain ⟨n1', n2, n3⟩ := nz n (by omega)
  obtain ⟨-, k0, hk0, cm0, hkk0⟩ := (hG.K.2 t0 _ ht0).1 n0 (fun j => mk (f j))
  obtain ⟨-, k1, hk1, cm1, hkk1⟩ := (hG.K.2 t1 _ ht1).1 n1 (fun j => mk (g j))
  intro T hT A
  obtain ⟨vm', A', step⟩ := A.arraycopy hx hown hlink hnat hstat hini (src := a0) (dst := a) (cs := arrV c0 n0 (fun j => mk (f j))) (cd := arrV c1 n1 (fun j => mk (g j))) (srcPos := zI (sp : Int)) (destPos := zI (dp : Int)) (n := zI (n : Int)) (by rw [hT]; exact hc0) (by rw [hT]; exact hc1) (fun _ q => by cases q) (fun _ q => by cases q) (fun q => by cases q) (fun q => by cases q) hk0 hk1 hkk0 hkk1 hty s1 d1 n1'
    (by rw [s3, n3, arrV_size]; omega) (by rw [d3, n3, arrV_size]; omega)
    (fun vm1 hal i hi => by
      rw [n2] at hi
      have e : (arrV c0 n0 (fun j => mk (f j))).slots.getD ((zI (sp : Int)).toNatClampNeg + i) .null = mk (f (sp + i)) := by
        rw [s2, Array.getD_eq_getD_getElem?, arrV_read _ _ (by omega)]; rfl
      rw [e]
      exact hok (T.setVm vm1) cm1 k1 hT hal hk1 hkk1 i hi)
    (g := F0 m pc ls (.int (zI (n : Int)) :: .int (zI (dp : Int)) :: .ref a :: .int (zI (sp : Int)) :: .ref a0 :: rest)) rfl (by rw [hml]) (rest := rest) rfl (by rw [hb]; exact d) hfr.1 (by show 2 * 0 + _ + _ ≤ _; have := hfr.2; omega)
  have e1 : copied (arrV c0 n0 (fun j => mk (f j))) (arrV c1 n1 (fun j => mk (g j))) (zI (sp : Int)) (zI (dp : Int)) (zI (n : Int)) = arrV c1 n1 (fun j => mk (va_cpy f g sp dp n j)) := by
    show (arrV c1 n1 (fun j => mk (g j))).storeRun (zI (dp : Int)).toNatClampNeg ((arrV c0 n0 (fun j => mk (f j))).stretch (zI (sp : Int)).toNatClampNeg (zI (n : Int)).toNatClampNeg) = _
    rw [s2, d2, n2]
    exact va_copied mk c0 c1 f g h4
  rw [e1] at A' step
  have hla : a < H.size := (Array.getElem?_eq_some_iff.mp hc1).1
  have hheap : ((T.setVm vm').setCell a (arrV c1 n1 (fun j => mk (va_cpy f g sp dp n j)))).heap = H.setIfInBounds a (arrV c1 n1 (fun j => mk (va_cpy f g sp dp n j))) := by rw [← hT]; rfl
  obtain ⟨t, b1, b2⟩ := kk _ _ (by simp [Array.getElem?_setIfInBounds, hla]) (by simp) (fun q hq => by simp [Array.getElem?_setIfInBounds, Ne.symm hq]) (fun z hz => by
    obtain ⟨w, -, hw⟩ := List.mem_map.mp hz
    rw [← hw]) _ hheap A'
  exact ⟨t, step t b1, b2⟩
end G6
section G7
variable {p : Program} {l : Launch} {e : Env} {R : Room} {s : State} {m : MethodId} {args : Array Value} {below : List Frame} {meth : Method} {c : Code} {H : Heap} {locs : List Loc} {cells slots : Nat} {Q : State → Prop}
variable {cc : ByteArray} {pc : Nat} {ls : Array Slot} {rest : List Value} {X : gX} {F : gF} {V : gV} {ws : va_W} {a : Nat}
theorem prim_takes {T : State} {comp : ClassId} {x : Int32} : T.takes comp (.int x) := trivial
/-- numbers are copied: the one that is written is in the list -/
theorem g_copyI (hx : p.tables.exec = Jvm.exec) (hb : c.code = cc) (hml : c.maxLocals = ls.size) {own : String} {index : Nat} (hown : s.vm.findClass own = some m.cls) (hlink : (Cond.methodLink own index arraycopyName).before args s = true) (hnat : (Cond.native arraycopyName).before args s = true) (hstat : (Cond.static arraycopyName).before args s = true) (hini : (Cond.initialized "java/lang/System").before args s = true) (hG : gW X F V ws s H locs) (t : Nat) {a0 : Nat} {cA : ClassId} {n0 n1 : Nat} {f g : Nat → Int32} {ty : FieldType} (ht : (gTY X)[t]? = some (cA, ty)) (hp : refKind ty = false) (h0 : va_at X.1 gCL (a0, aI cA n0 f) H) (k : Nat) (h1 : ws[k]? = some (a, aI cA n1 g)) {x y z : Int} (sp dp n : Nat) (hz : x = (sp : Int) ∧ y = (dp : Int) ∧ z = (n : Int) ∧ sp + n ≤ n0 ∧ dp + n ≤ n1 ∧ n0 < 2147483648 ∧ n1 < 2147483648) (hok : ∀ i, i < n → fits ty (.int (f (sp + i))) = true)
    (hfr : 1 ≤ R.frames ∧ (rest.map fun v => v.category).sum + (nativeFrameWords "java/lang/System" "arraycopy" 5 + 11) ≤ R.locals) (d : decode cc pc = .ok (.invokestatic index, 3))
    (kk : ∀ (H1 : Heap) (locs1 : List Loc), gW X F V (ws.set k (a, aI cA n1 (va_cpy f g sp dp n))) s H1 locs1 → W p l e R s m args below meth c H1 locs1 cells slots Q (F0 m (pc + 3) ls rest)) : W p l e R s m args below meth c H locs cells slots Q (F0 m pc ls (.int (zI z) :: .int (zI y) :: .ref a :: .int (zI x) :: .ref a0 :: rest)) :=
  g_copy0 (fun v => .int v) hx hb hml hown hlink hnat hstat hini hG t t ht ht (by rw [hp]; simp) h0 (hG.at k h1) sp dp n hz (fun _ _ _ _ _ _ _ i hi => ⟨hok i hi, trivial⟩) hfr d (fun H1 L e1 e2 e3 e4 => kk H1 _ ((hG.wr (i := 0) k h1 (show va_at X.1 gCL (a, aI cA n1 (va_cpy f g sp dp n)) H1 from e1) e2 e3).ext9 e4))
theorem g_copyIV (hx : p.tables.exec = Jvm.exec) (hb : c.code = cc) (hml : c.maxLocals = ls.size) {own : String} {index : Nat} (hown : s.vm.findClass own = some m.cls) (hlink : (Cond.methodLink own index arraycopyName).before args s = true) (hnat : (Cond.native arraycopyName).before args s = true) (hstat : (Cond.static arraycopyName).before args s = true) (hini : (Cond.initialized "java/lang/System").before args s = true) (hG : gW X F V ws s H locs) (t : Nat) {a0 : Nat} {cA : ClassId} {n0 n1 : Nat} {f g : Nat → Int32} {ty : FieldType} (ht : (gTY X)[t]? = some (cA, ty)) (hp : refKind ty = false) (h0 : va_at X.1 gCL (a0, aI cA n0 f) H) {r : Nat} (h1 : V r = some (a, aI cA n1 g)) {x y z : Int} (sp dp n : Nat) (hz : x = (sp : Int) ∧ y = (dp : Int) ∧ z = (n : Int) ∧ sp + n ≤ n0 ∧ dp + n ≤ n1 ∧ n0 < 2147483648 ∧ n1 < 2147483648) (hok : ∀ i, i < n → fits ty (.int (f (sp + i))) = true)
    (hfr : 1 ≤ R.frames ∧ (rest.map fun v => v.category).sum + (nativeFrameWords "java/lang/System" "arraycopy" 5 + 11) ≤ R.locals) (d : decode cc pc = .ok (.invokestatic index, 3))
    (kk : ∀ (H1 : Heap) (locs1 : List Loc), gW X F (va_up V r (some (a, aI cA n1 (va_cpy f g sp dp n)))) ws s H1 locs1 → W p l e R s m args below meth c H1 locs1 cells slots Q (F0 m (pc + 3) ls rest)) : W p l e R s m args below meth c H locs cells slots Q (F0 m pc ls (.int (zI z) :: .int (zI y) :: .ref a :: .int (zI x) :: .ref a0 :: rest)) :=
  g_copy0 (fun v => .int v) hx hb hml hown hlink hnat hstat hini hG t t ht ht (by rw [hp]; simp) h0 (hG.vo h1) sp dp n hz (fun _ _ _ _ _ _ _ i hi => ⟨hok i hi, trivial⟩) hfr d (fun H1 L e1 e2 e3 e4 => kk H1 _ ((hG.wrV (i := 0) h1 (show va_at X.1 gCL (a, aI cA n1 (va_cpy f g sp dp n)) H1 from e1) e2 e3).ext9 e4))
/-- longs -/
theorem g_copyLV (hx : p.tables.exec = Jvm.exec) (hb : c.code = cc) (hml : c.maxLocals = ls.size) {own : String} {index : Nat} (hown : s.vm.findClass own = some m.cls) (hlink : (Cond.methodLink own index arraycopyName).before args s = true) (hnat : (Cond.native arraycopyName).before args s = true) (hstat : (Cond.static arraycopyName).before args s = true) (hini : (Cond.initialized "java/lang/System").before args s = true) (hG : gW X F V ws s H locs) {a0 : Nat} {n0 n1 : Nat} {f g : Nat → Int64} (h0 : va_at X.1 gCL (a0, aL (gT X 1) n0 f) H) {r : Nat} (h1 : V r = some (a, aL (gT X 1) n1 g)) {x y z : Int} (sp dp n : Nat) (hz : x = (sp : Int) ∧ y = (dp : Int) ∧ z = (n : Int) ∧ sp + n ≤ n0 ∧ dp + n ≤ n1 ∧ n0 < 2147483648 ∧ n1 < 2147483648)
    (hfr : 1 ≤ R.frames ∧ (rest.map fun v => v.category).sum + (nativeFrameWords "java/lang/System" "arraycopy" 5 + 11) ≤ R.locals) (d : decode cc pc = .ok (.invokestatic index, 3))
    (kk : ∀ (H1 : Heap) (locs1 : List Loc), gW X F (va_up V r (some (a, aL (gT X 1) n1 (va_cpy f g sp dp n)))) ws s H1 locs1 → W p l e R s m args below meth c H1 locs1 cells slots Q (F0 m (pc + 3) ls rest)) : W p l e R s m args below meth c H locs cells slots Q (F0 m pc ls (.int (zI z) :: .int (zI y) :: .ref a :: .int (zI x) :: .ref a0 :: rest)) :=
  g_copy0 (fun v => .long v) hx hb hml hown hlink hnat hstat hini hG 1 1 rfl rfl rfl h0 (hG.vo h1) sp dp n hz (fun _ _ _ _ _ _ _ i hi => ⟨rfl, trivial⟩) hfr d (fun H1 L e1 e2 e3 e4 => kk H1 _ ((hG.wrV (i := 0) h1 (show va_at X.1 gCL (a, aL (gT X 1) n1 (va_cpy f g sp dp n)) H1 from e1) e2 e3).ext9 e4))
/-- references: E is the type of the written array's elements -/
theorem ref_takes (hG : gW X F V ws s H locs) (t : Nat) {cA : ClassId} {E : String} (ht : (gTY X)[t]? = some (cA, .object E)) {T : State} {comp : ClassId} {kA : Class} (hT : T.heap = H) (hal : s.vm.Alike T.vm) (hk : s.vm.classes[cA]? = some kA) (hkk : kA.kind = .array comp (.object E)) {o : Option Nat} (ho : ∀ y, o = some y → va_Any E s H y) : fits (.object E) (va_rf o) = true ∧ T.takes comp (va_rf o) := by
  cases ho9 : o with
  | none => exact ⟨rfl, trivial⟩
  | some y =>
    obtain ⟨cellV, g1, g2, ⟨kC, hkC⟩, g3⟩ := ho y ho9
    obtain ⟨kA2, comp2, r1, r2, r3, -⟩ := (hG.K.2 t _ ht).2
    cases hk.symm.trans r1
    cases hkk.symm.trans r2
    obtain ⟨kE, hkE, -⟩ := Vm.findClass_spec r3
    obtain ⟨kC', hkC', -⟩ := hal.2.2 _ _ hkC
    obtain ⟨kE', hkE', -⟩ := hal.2.2 _ _ hkE
    refine ⟨rfl, cellV, by rw [hT]; exact g1, (fun q h => by rw [h] at g2; cases g2), ⟨kC', hkC'⟩, ⟨kE', hkE'⟩, ?_⟩
    show T.vm.assignable _ _ = true
    rw [hal.assignable]
    exact g3 _ r3
theorem g_copyQ (hx : p.tables.exec = Jvm.exec) (hb : c.code = cc) (hml : c.maxLocals = ls.size) {own : String} {index : Nat} (hown : s.vm.findClass own = some m.cls) (hlink : (Cond.methodLink own index arraycopyName).before args s = true) (hnat : (Cond.native arraycopyName).before args s = true) (hstat : (Cond.static arraycopyName).before args s = true) (hini : (Cond.initialized "java/lang/System").before args s = true) (hG : gW X F V ws s H locs) (t : Nat) {a0 : Nat} {cA : ClassId} {n0 n1 : Nat} {f g : Nat → Option Nat} {E : String} (ht : (gTY X)[t]? = some (cA, .object E)) (h0 : va_at X.1 gCL (a0, aR cA n0 f) H) (k : Nat) (h1 : ws[k]? = some (a, aR cA n1 g)) {x y z : Int} (sp dp n : Nat) (hz : x = (sp : Int) ∧ y = (dp : Int) ∧ z = (n : Int) ∧ sp + n ≤ n0 ∧ dp + n ≤ n1 ∧ n0 < 2147483648 ∧ n1 < 2147483648) (hok : ∀ i, i < n → ∀ y, f (sp + i) = some y → va_Any E s H y)
    (hfr : 1 ≤ R.frames ∧ (rest.map fun v => v.category).sum + (nativeFrameWords "java/lang/System" "arraycopy" 5 + 11) ≤ R.locals) (d : decode cc pc = .ok (.invokestatic index, 3))
    (kk : ∀ (H1 : Heap) (locs1 : List Loc), gW X F V (ws.set k (a, aR cA n1 (va_cpy f g sp dp n))) s H1 locs1 → W p l e R s m args below meth c H1 locs1 cells slots Q (F0 m (pc + 3) ls rest)) : W p l e R s m args below meth c H locs cells slots Q (F0 m pc ls (.int (zI z) :: .int (zI y) :: .ref a :: .int (zI x) :: .ref a0 :: rest)) :=
  g_copy0 (fun v => va_rf v) hx hb hml hown hlink hnat hstat hini hG t t ht ht rfl (h0.trans (congrArg some (vp_cell_q _ _ _))) ((hG.at k h1).trans (congrArg some (vp_cell_q _ _ _))) sp dp n hz (fun T comp kA hT hal hk hkk i hi => ref_takes hG t ht hT hal hk hkk (hok i hi)) hfr d (fun H1 L e1 e2 e3 e4 => kk H1 _ ((hG.wr (i := 0) k h1 (show va_at X.1 gCL (a, aR cA n1 (va_cpy f g sp dp n)) H1 from e1.trans (congrArg some (vp_cell_q _ _ _).symm)) e2 e3).ext9 e4))
end G7
