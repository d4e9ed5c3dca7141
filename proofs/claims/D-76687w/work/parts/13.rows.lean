/-! ROWS OVER THE GHOST HEAP -/
set_option maxRecDepth 100000
section GR
variable {p : Program} {l : Launch} {e : Env} {R : Room} {s : State} {m : MethodId} {args : Array Value} {below : List Frame} {meth : Method} {c : Code} {H : Heap} {locs : List Loc} {cells slots : Nat} {Q : State → Prop}
variable {cc : ByteArray} {pc : Nat} {ls : Array Slot} {rest : List Value} {X : gX} {F : gF} {V : gV} {ws : va_W} {a : Nat}
/-! whole numbers -/
theorem zRR {x y : Int} (h : -2147483648 ≤ x ∧ x < 2147483648 ∧ -2147483648 ≤ y ∧ y < 2147483648) : zR x ∧ zR y := ⟨⟨h.1, h.2.1⟩, ⟨h.2.2.1, h.2.2.2⟩⟩
theorem g_top {x y : Int32} (h : x = y) (k : W p l e R s m args below meth c H locs cells slots Q (F0 m pc ls (.int y :: rest))) : W p l e R s m args below meth c H locs cells slots Q (F0 m pc ls (.int x :: rest)) := h ▸ k
theorem g_topz {x y : Int} (h : x = y) (k : W p l e R s m args below meth c H locs cells slots Q (F0 m pc ls (.int (zI y) :: rest))) : W p l e R s m args below meth c H locs cells slots Q (F0 m pc ls (.int (zI x) :: rest)) := h ▸ k
theorem g_topv {x y : Value} (h : x = y) (k : W p l e R s m args below meth c H locs cells slots Q (F0 m pc ls (y :: rest))) : W p l e R s m args below meth c H locs cells slots Q (F0 m pc ls (x :: rest)) := h ▸ k
theorem g_iadd (hx : p.tables.exec = Jvm.exec) (hb : c.code = cc) {x y : Int} (d : decode cc pc = .ok (.iadd, 1)) (k : W p l e R s m args below meth c H locs cells slots Q (F0 m (pc + 1) ls (.int (zI (x + y)) :: rest))) : W p l e R s m args below meth c H locs cells slots Q (F0 m pc ls (.int (zI y) :: .int (zI x) :: rest)) := lv_iadd hx hb d (g_top (zI_add x y) k)
theorem g_isub (hx : p.tables.exec = Jvm.exec) (hb : c.code = cc) {x y : Int} (d : decode cc pc = .ok (.isub, 1)) (k : W p l e R s m args below meth c H locs cells slots Q (F0 m (pc + 1) ls (.int (zI (x - y)) :: rest))) : W p l e R s m args below meth c H locs cells slots Q (F0 m pc ls (.int (zI y) :: .int (zI x) :: rest)) := lv_isub hx hb d (g_top (zI_sub x y) k)
theorem g_imul (hx : p.tables.exec = Jvm.exec) (hb : c.code = cc) {x y : Int} (d : decode cc pc = .ok (.imul, 1)) (k : W p l e R s m args below meth c H locs cells slots Q (F0 m (pc + 1) ls (.int (zI (x * y)) :: rest))) : W p l e R s m args below meth c H locs cells slots Q (F0 m pc ls (.int (zI y) :: .int (zI x) :: rest)) := lv_imul hx hb d (g_top (zI_mul x y) k)
theorem g_ineg (hx : p.tables.exec = Jvm.exec) (hb : c.code = cc) {x : Int} (d : decode cc pc = .ok (.ineg, 1)) (k : W p l e R s m args below meth c H locs cells slots Q (F0 m (pc + 1) ls (.int (zI (-x)) :: rest))) : W p l e R s m args below meth c H locs cells slots Q (F0 m pc ls (.int (zI x) :: rest)) := lv_ineg hx hb d (g_top (zI_neg x) k)
theorem g_eq (hx : p.tables.exec = Jvm.exec) (hb : c.code = cc) {x : Int} {off : Int} {tgt : Nat} (d : decode cc pc = .ok (.ifCond .eq off, 3)) (ht : (pc : Int) + off = (tgt : Int)) (hr : -2147483648 ≤ x ∧ x < 2147483648)
    (kt : x = 0 → W p l e R s m args below meth c H locs cells slots Q (F0 m tgt ls rest)) (kf : x ≠ 0 → W p l e R s m args below meth c H locs cells slots Q (F0 m (pc + 3) ls rest)) : W p l e R s m args below meth c H locs cells slots Q (F0 m pc ls (.int (zI x) :: rest)) :=
  lv_if_eq hx hb d ht (fun h => kt ((zI_eq ⟨hr, by decide⟩).mp (h.trans zI_0))) (fun h => kf (fun q => h (by rw [q]; exact zI_0.symm)))
theorem g_ne (hx : p.tables.exec = Jvm.exec) (hb : c.code = cc) {x : Int} {off : Int} {tgt : Nat} (d : decode cc pc = .ok (.ifCond .ne off, 3)) (ht : (pc : Int) + off = (tgt : Int)) (hr : -2147483648 ≤ x ∧ x < 2147483648)
    (kt : x ≠ 0 → W p l e R s m args below meth c H locs cells slots Q (F0 m tgt ls rest)) (kf : x = 0 → W p l e R s m args below meth c H locs cells slots Q (F0 m (pc + 3) ls rest)) : W p l e R s m args below meth c H locs cells slots Q (F0 m pc ls (.int (zI x) :: rest)) :=
  lv_if_ne hx hb d ht (fun h => kt (fun q => h (by rw [q]; exact zI_0.symm))) (fun h => kf ((zI_eq ⟨hr, by decide⟩).mp (h.trans zI_0)))
theorem g_lt (hx : p.tables.exec = Jvm.exec) (hb : c.code = cc) {x : Int} {off : Int} {tgt : Nat} (d : decode cc pc = .ok (.ifCond .lt off, 3)) (ht : (pc : Int) + off = (tgt : Int)) (hr : -2147483648 ≤ x ∧ x < 2147483648)
    (kt : x < 0 → W p l e R s m args below meth c H locs cells slots Q (F0 m tgt ls rest)) (kf : 0 ≤ x → W p l e R s m args below meth c H locs cells slots Q (F0 m (pc + 3) ls rest)) : W p l e R s m args below meth c H locs cells slots Q (F0 m pc ls (.int (zI x) :: rest)) :=
  lv_if_lt hx hb d ht (fun h => kt ((zI_lt ⟨hr, by decide⟩).mp (zI_0 ▸ h))) (fun h => kf (Int.not_lt.mp (fun q => h (by rw [zI_0]; exact (zI_lt ⟨hr, by decide⟩).mpr q))))
theorem g_ge (hx : p.tables.exec = Jvm.exec) (hb : c.code = cc) {x : Int} {off : Int} {tgt : Nat} (d : decode cc pc = .ok (.ifCond .ge off, 3)) (ht : (pc : Int) + off = (tgt : Int)) (hr : -2147483648 ≤ x ∧ x < 2147483648)
    (kt : 0 ≤ x → W p l e R s m args below meth c H locs cells slots Q (F0 m tgt ls rest)) (kf : x < 0 → W p l e R s m args below meth c H locs cells slots Q (F0 m (pc + 3) ls rest)) : W p l e R s m args below meth c H locs cells slots Q (F0 m pc ls (.int (zI x) :: rest)) :=
  lv_if_ge hx hb d ht (fun h => kt ((zI_le ⟨by decide, hr⟩).mp (zI_0 ▸ h))) (fun h => kf (Int.not_le.mp (fun q => h (by rw [zI_0]; exact (zI_le ⟨by decide, hr⟩).mpr q))))
theorem g_gt (hx : p.tables.exec = Jvm.exec) (hb : c.code = cc) {x : Int} {off : Int} {tgt : Nat} (d : decode cc pc = .ok (.ifCond .gt off, 3)) (ht : (pc : Int) + off = (tgt : Int)) (hr : -2147483648 ≤ x ∧ x < 2147483648)
    (kt : 0 < x → W p l e R s m args below meth c H locs cells slots Q (F0 m tgt ls rest)) (kf : x ≤ 0 → W p l e R s m args below meth c H locs cells slots Q (F0 m (pc + 3) ls rest)) : W p l e R s m args below meth c H locs cells slots Q (F0 m pc ls (.int (zI x) :: rest)) :=
  lv_if_gt hx hb d ht (fun h => kt ((zI_lt ⟨by decide, hr⟩).mp (zI_0 ▸ h))) (fun h => kf (Int.not_lt.mp (fun q => h (by rw [zI_0]; exact (zI_lt ⟨by decide, hr⟩).mpr q))))
theorem g_le (hx : p.tables.exec = Jvm.exec) (hb : c.code = cc) {x : Int} {off : Int} {tgt : Nat} (d : decode cc pc = .ok (.ifCond .le off, 3)) (ht : (pc : Int) + off = (tgt : Int)) (hr : -2147483648 ≤ x ∧ x < 2147483648)
    (kt : x ≤ 0 → W p l e R s m args below meth c H locs cells slots Q (F0 m tgt ls rest)) (kf : 0 < x → W p l e R s m args below meth c H locs cells slots Q (F0 m (pc + 3) ls rest)) : W p l e R s m args below meth c H locs cells slots Q (F0 m pc ls (.int (zI x) :: rest)) :=
  lv_if_le hx hb d ht (fun h => kt ((zI_le ⟨hr, by decide⟩).mp (zI_0 ▸ h))) (fun h => kf (Int.not_le.mp (fun q => h (by rw [zI_0]; exact (zI_le ⟨hr, by decide⟩).mpr q))))
theorem g_ceq (hx : p.tables.exec = Jvm.exec) (hb : c.code = cc) {x y : Int} {off : Int} {tgt : Nat} (d : decode cc pc = .ok (.if_icmp .eq off, 3)) (ht : (pc : Int) + off = (tgt : Int)) (hr : -2147483648 ≤ x ∧ x < 2147483648 ∧ -2147483648 ≤ y ∧ y < 2147483648)
    (kt : x = y → W p l e R s m args below meth c H locs cells slots Q (F0 m tgt ls rest)) (kf : x ≠ y → W p l e R s m args below meth c H locs cells slots Q (F0 m (pc + 3) ls rest)) : W p l e R s m args below meth c H locs cells slots Q (F0 m pc ls (.int (zI y) :: .int (zI x) :: rest)) :=
  lv_icmp_eq hx hb d ht (fun h => kt ((zI_eq (zRR hr)).mp h)) (fun h => kf (fun q => h ((zI_eq (zRR hr)).mpr q)))
theorem g_cne (hx : p.tables.exec = Jvm.exec) (hb : c.code = cc) {x y : Int} {off : Int} {tgt : Nat} (d : decode cc pc = .ok (.if_icmp .ne off, 3)) (ht : (pc : Int) + off = (tgt : Int)) (hr : -2147483648 ≤ x ∧ x < 2147483648 ∧ -2147483648 ≤ y ∧ y < 2147483648)
    (kt : x ≠ y → W p l e R s m args below meth c H locs cells slots Q (F0 m tgt ls rest)) (kf : x = y → W p l e R s m args below meth c H locs cells slots Q (F0 m (pc + 3) ls rest)) : W p l e R s m args below meth c H locs cells slots Q (F0 m pc ls (.int (zI y) :: .int (zI x) :: rest)) :=
  lv_icmp_ne hx hb d ht (fun h => kt (fun q => h ((zI_eq (zRR hr)).mpr q))) (fun h => kf ((zI_eq (zRR hr)).mp h))
theorem g_clt (hx : p.tables.exec = Jvm.exec) (hb : c.code = cc) {x y : Int} {off : Int} {tgt : Nat} (d : decode cc pc = .ok (.if_icmp .lt off, 3)) (ht : (pc : Int) + off = (tgt : Int)) (hr : -2147483648 ≤ x ∧ x < 2147483648 ∧ -2147483648 ≤ y ∧ y < 2147483648)
    (kt : x < y → W p l e R s m args below meth c H locs cells slots Q (F0 m tgt ls rest)) (kf : y ≤ x → W p l e R s m args below meth c H locs cells slots Q (F0 m (pc + 3) ls rest)) : W p l e R s m args below meth c H locs cells slots Q (F0 m pc ls (.int (zI y) :: .int (zI x) :: rest)) :=
  lv_icmp_lt hx hb d ht (fun h => kt ((zI_lt (zRR hr)).mp h)) (fun h => kf (Int.not_lt.mp (fun q => h ((zI_lt (zRR hr)).mpr q))))
theorem g_cge (hx : p.tables.exec = Jvm.exec) (hb : c.code = cc) {x y : Int} {off : Int} {tgt : Nat} (d : decode cc pc = .ok (.if_icmp .ge off, 3)) (ht : (pc : Int) + off = (tgt : Int)) (hr : -2147483648 ≤ x ∧ x < 2147483648 ∧ -2147483648 ≤ y ∧ y < 2147483648)
    (kt : y ≤ x → W p l e R s m args below meth c H locs cells slots Q (F0 m tgt ls rest)) (kf : x < y → W p l e R s m args below meth c H locs cells slots Q (F0 m (pc + 3) ls rest)) : W p l e R s m args below meth c H locs cells slots Q (F0 m pc ls (.int (zI y) :: .int (zI x) :: rest)) :=
  lv_icmp_ge hx hb d ht (fun h => kt ((zI_le (zRR hr).symm).mp h)) (fun h => kf (Int.not_le.mp (fun q => h ((zI_le (zRR hr).symm).mpr q))))
theorem g_cgt (hx : p.tables.exec = Jvm.exec) (hb : c.code = cc) {x y : Int} {off : Int} {tgt : Nat} (d : decode cc pc = .ok (.if_icmp .gt off, 3)) (ht : (pc : Int) + off = (tgt : Int)) (hr : -2147483648 ≤ x ∧ x < 2147483648 ∧ -2147483648 ≤ y ∧ y < 2147483648)
    (kt : y < x → W p l e R s m args below meth c H locs cells slots Q (F0 m tgt ls rest)) (kf : x ≤ y → W p l e R s m args below meth c H locs cells slots Q (F0 m (pc + 3) ls rest)) : W p l e R s m args below meth c H locs cells slots Q (F0 m pc ls (.int (zI y) :: .int (zI x) :: rest)) :=
  lv_icmp_gt hx hb d ht (fun h => kt ((zI_lt (zRR hr).symm).mp h)) (fun h => kf (Int.not_lt.mp (fun q => h ((zI_lt (zRR hr).symm).mpr q))))
theorem g_cle (hx : p.tables.exec = Jvm.exec) (hb : c.code = cc) {x y : Int} {off : Int} {tgt : Nat} (d : decode cc pc = .ok (.if_icmp .le off, 3)) (ht : (pc : Int) + off = (tgt : Int)) (hr : -2147483648 ≤ x ∧ x < 2147483648 ∧ -2147483648 ≤ y ∧ y < 2147483648)
    (kt : x ≤ y → W p l e R s m args below meth c H locs cells slots Q (F0 m tgt ls rest)) (kf : y < x → W p l e R s m args below meth c H locs cells slots Q (F0 m (pc + 3) ls rest)) : W p l e R s m args below meth c H locs cells slots Q (F0 m pc ls (.int (zI y) :: .int (zI x) :: rest)) :=
  lv_icmp_le hx hb d ht (fun h => kt ((zI_le (zRR hr)).mp h)) (fun h => kf (Int.not_le.mp (fun q => h ((zI_le (zRR hr)).mpr q))))
/-! fields -/
theorem g_get (hx : p.tables.exec = Jvm.exec) (hb : c.code = cc) {own ref C : String} {T : u_T} {N ci index : Nat} (hts : ∀ w ∈ lw_all, w.before args s = true) (hin : ∀ w ∈ u_ws C T N, w ∈ lw_all) (hown : s.vm.findClass own = some m.cls) (hG : gW X F V ws s H locs) {fs : List Value} (hat : va_at X.1 gCL (a, oB ci fs) H) (hc : gCL[ci]? = some (C, T, N)) (k : Nat) (hk : k < N) (hlink : (Cond.fieldLink own index ref (T k).2.1 (T k).2.2.1).before args s = true) (hsame : ∀ x, s.fieldFound? (T k).1 (T k).2.1 (T k).2.2.1 = some x → s.fieldFound? ref (T k).2.1 (T k).2.2.1 = some x) {v : Value} (hv : fs[k]? = some v) (d : decode cc pc = .ok (.getfield index, 3))
    (kk : W p l e R s m args below meth c H locs cells slots Q (F0 m (pc + 3) ls (v :: rest))) : W p l e R s m args below meth c H locs cells slots Q (F0 m pc ls (.ref a :: rest)) :=
  va_get hx hb hts hin hown hG.K (gone hat) 0 rfl hc k hk hlink hsame hv d kk
theorem g_put0 (hx : p.tables.exec = Jvm.exec) (hb : c.code = cc) {own ref C : String} {T : u_T} {N ci index : Nat} (hts : ∀ w ∈ lw_all, w.before args s = true) (hin : ∀ w ∈ u_ws C T N, w ∈ lw_all) (ty0 : Nat → FieldType) (hty : ∀ k, k < N → parseFieldDescriptor (T k).2.2.1 = some (ty0 k)) (hnm : ∀ a, a < N → ∀ b, b < N → a ≠ b → (T a).2.1 ≠ (T b).2.1) (hown : s.vm.findClass own = some m.cls) (hG : gW X F V ws s H locs) {fs : List Value} (hat : va_at X.1 gCL (a, oB ci fs) H) (hc : gCL[ci]? = some (C, T, N)) (k : Nat) (hk : k < N) (hlink : (Cond.fieldLink own index ref (T k).2.1 (T k).2.2.1).before args s = true) (hsame : ∀ x, s.fieldFound? (T k).1 (T k).2.1 (T k).2.2.1 = some x → s.fieldFound? ref (T k).2.1 (T k).2.2.1 = some x) (hfin : (T k).2.2.2 = false) {ty : FieldType} {v : Value} (hd : parseFieldDescriptor (T k).2.2.1 = some ty) (hn : narrow ty v = v) (hfit : fits ty v = true) (hl : k < fs.length) (d : decode cc pc = .ok (.putfield index, 3))
    (kk : ∀ (H1 : Heap) (i : Nat), va_at X.1 gCL (a, oB ci (fs.set k v)) H1 → H1.size = H.size → (∀ q : Nat, q ≠ a → H1[q]? = H[q]?) → W p l e R s m args below meth c H1 (locs ++ [⟨a, i⟩]) cells slots Q (F0 m (pc + 3) ls rest)) : W p l e R s m args below meth c H locs cells slots Q (F0 m pc ls (v :: .ref a :: rest)) := by
  have hK := hG.K
  have hap := va_apart (own := own) hts hin ty0 hty hnm hK hc
  obtain ⟨r, h1, cell, q1, q2, q3, q4⟩ := hat
  have hr : r = (C, T, N) := Option.some.inj (h1.symm.trans hc)
  subst hr
  obtain ⟨hS, hfc, kC, hkC, hkind⟩ := hK.1 ci _ hc
  obtain ⟨cf, kf, fi, f, hi, hsl⟩ := hS k hk
  have hlay := hts _ (hin _ (u_in_lay hk))
  unfold u_lay at hlay
  rw [if_neg (by rw [hfin]; decide)] at hlay
  have hst := (u_facts hfc hkC (u_lays hts hin hk) hi).1
  have h6 := u_store hfc hkC hkind hlay hi hd hn hfit
  refine W.putK hx hb (f := f) ⟨hown, hlink, ⟨_, _, _, hsame _ hi⟩, hst⟩ (by rw [q2]; exact h6) q1 q3 (by rw [hsl]; exact k2_hasslot (q4 k hk)) rfl rfl d fun H' e1 e2 e3 => ?_
  rw [hsl] at e1 ⊢
  exact kk H' _ ⟨_, hc, t_OB.to (V := updV (vp_V fs) k v) ⟨_, e1, q2, q3, t_set q4 hap hk v⟩ (fun j _ => vp_updV_set hl v j)⟩ e2 e3
theorem g_put (hx : p.tables.exec = Jvm.exec) (hb : c.code = cc) {own ref C : String} {T : u_T} {N ci index : Nat} (hts : ∀ w ∈ lw_all, w.before args s = true) (hin : ∀ w ∈ u_ws C T N, w ∈ lw_all) (ty0 : Nat → FieldType) (hty : ∀ k, k < N → parseFieldDescriptor (T k).2.2.1 = some (ty0 k)) (hnm : ∀ a, a < N → ∀ b, b < N → a ≠ b → (T a).2.1 ≠ (T b).2.1) (hown : s.vm.findClass own = some m.cls) (hG : gW X F V ws s H locs) (q0 : Nat) {fs : List Value} (he : ws[q0]? = some (a, oB ci fs)) (hc : gCL[ci]? = some (C, T, N)) (k : Nat) (hk : k < N) (hlink : (Cond.fieldLink own index ref (T k).2.1 (T k).2.2.1).before args s = true) (hsame : ∀ x, s.fieldFound? (T k).1 (T k).2.1 (T k).2.2.1 = some x → s.fieldFound? ref (T k).2.1 (T k).2.2.1 = some x) (hfin : (T k).2.2.2 = false) {ty : FieldType} {v : Value} (hd : parseFieldDescriptor (T k).2.2.1 = some ty) (hn : narrow ty v = v) (hfit : fits ty v = true) (hl : k < fs.length) (d : decode cc pc = .ok (.putfield index, 3))
    (kk : ∀ (H1 : Heap) (locs1 : List Loc), gW X F V (ws.set q0 (a, oB ci (fs.set k v))) s H1 locs1 → W p l e R s m args below meth c H1 locs1 cells slots Q (F0 m (pc + 3) ls rest)) : W p l e R s m args below meth c H locs cells slots Q (F0 m pc ls (v :: .ref a :: rest)) :=
  g_put0 hx hb hts hin ty0 hty hnm hown hG (hG.at q0 he) hc k hk hlink hsame hfin hd hn hfit hl d fun H1 _ e1 e2 e3 => kk H1 _ (hG.wr q0 he e1 e2 e3)
theorem g_putF (hx : p.tables.exec = Jvm.exec) (hb : c.code = cc) {own ref C : String} {T : u_T} {N ci index : Nat} (hts : ∀ w ∈ lw_all, w.before args s = true) (hin : ∀ w ∈ u_ws C T N, w ∈ lw_all) (ty0 : Nat → FieldType) (hty : ∀ k, k < N → parseFieldDescriptor (T k).2.2.1 = some (ty0 k)) (hnm : ∀ a, a < N → ∀ b, b < N → a ≠ b → (T a).2.1 ≠ (T b).2.1) (hown : s.vm.findClass own = some m.cls) (hin2 : meth.name = "<init>") (hG : gW X F V ws s H locs) (q0 : Nat) {fs : List Value} (he : ws[q0]? = some (a, oB ci fs)) (hc : gCL[ci]? = some (C, T, N)) (k : Nat) (hk : k < N) (hlink : (Cond.fieldLink own index ref (T k).2.1 (T k).2.2.1).before args s = true) (hsame : ∀ x, s.fieldFound? (T k).1 (T k).2.1 (T k).2.2.1 = some x → s.fieldFound? ref (T k).2.1 (T k).2.2.1 = some x) (hfin : (T k).2.2.2 = true) (hdecl : (T k).1 = own) {ty : FieldType} {v : Value} (hd : parseFieldDescriptor (T k).2.2.1 = some ty) (hn : narrow ty v = v) (hfit : fits ty v = true) (hl : k < fs.length) (d : decode cc pc = .ok (.putfield index, 3))
    (kk : ∀ (H1 : Heap) (locs1 : List Loc), gW X F V (ws.set q0 (a, oB ci (fs.set k v))) s H1 locs1 → W p l e R s m args below meth c H1 locs1 cells slots Q (F0 m (pc + 3) ls rest)) : W p l e R s m args below meth c H locs cells slots Q (F0 m pc ls (v :: .ref a :: rest)) := by
  have hK := hG.K
  have hap := va_apart (own := own) hts hin ty0 hty hnm hK hc
  obtain ⟨r, h1, cell, q1, q2, q3, q4⟩ := hG.at q0 he
  have hr : r = (C, T, N) := Option.some.inj (h1.symm.trans hc)
  subst hr
  obtain ⟨hS, hfc, kC, hkC, hkind⟩ := hK.1 ci _ hc
  obtain ⟨cf, kf, fi, f, hi, hsl⟩ := hS k hk
  have hlay := hts _ (hin _ (u_in_lay hk))
  unfold u_lay at hlay
  rw [if_pos hfin] at hlay
  have hst := (u_facts hfc hkC (u_lays hts hin hk) hi).1
  have hcf : m.cls = cf := by
    obtain ⟨_, _, c', _, _, _, -, -, hf', -, -, -, hown2, -⟩ := Cond.laysFinal_spec hlay
    have e1 : c' = cf := by have := hi.symm.trans hf'; simp at this; exact this.1.symm
    rw [hdecl] at hown2
    rw [← e1]; exact Option.some.inj (hown.symm.trans hown2)
  have h6 := u_fits hfc hkC hkind (Or.inr hlay) hi hd hn hfit
  refine W.putFinK hx hb hown hlink (hsame _ hi) hst hcf hin2 (by rw [q2]; exact h6) q1 q3 (by rw [hsl]; exact k2_hasslot (q4 k hk)) rfl rfl d fun H' e1 e2 e3 => ?_
  rw [hsl] at e1 ⊢
  exact kk H' _ (hG.wr q0 he ⟨_, hc, t_OB.to (V := updV (vp_V fs) k v) ⟨_, e1, q2, q3, t_set q4 hap hk v⟩ (fun j _ => vp_updV_set hl v j)⟩ e2 e3)
theorem g_putV (hx : p.tables.exec = Jvm.exec) (hb : c.code = cc) {own ref C : String} {T : u_T} {N ci index : Nat} (hts : ∀ w ∈ lw_all, w.before args s = true) (hin : ∀ w ∈ u_ws C T N, w ∈ lw_all) (ty0 : Nat → FieldType) (hty : ∀ k, k < N → parseFieldDescriptor (T k).2.2.1 = some (ty0 k)) (hnm : ∀ a, a < N → ∀ b, b < N → a ≠ b → (T a).2.1 ≠ (T b).2.1) (hown : s.vm.findClass own = some m.cls) (hG : gW X F V ws s H locs) {r : Nat} {fs : List Value} (he : V r = some (a, oB ci fs)) (hc : gCL[ci]? = some (C, T, N)) (k : Nat) (hk : k < N) (hlink : (Cond.fieldLink own index ref (T k).2.1 (T k).2.2.1).before args s = true) (hsame : ∀ x, s.fieldFound? (T k).1 (T k).2.1 (T k).2.2.1 = some x → s.fieldFound? ref (T k).2.1 (T k).2.2.1 = some x) (hfin : (T k).2.2.2 = false) {ty : FieldType} {v : Value} (hd : parseFieldDescriptor (T k).2.2.1 = some ty) (hn : narrow ty v = v) (hfit : fits ty v = true) (hl : k < fs.length) (d : decode cc pc = .ok (.putfield index, 3))
    (kk : ∀ (H1 : Heap) (locs1 : List Loc), gW X F (va_up V r (some (a, oB ci (fs.set k v)))) ws s H1 locs1 → W p l e R s m args below meth c H1 locs1 cells slots Q (F0 m (pc + 3) ls rest)) : W p l e R s m args below meth c H locs cells slots Q (F0 m pc ls (v :: .ref a :: rest)) :=
  g_put0 hx hb hts hin ty0 hty hnm hown hG (hG.vo he) hc k hk hlink hsame hfin hd hn hfit hl d fun H1 _ e1 e2 e3 => kk H1 _ (hG.wrV he e1 e2 e3)
/-! arrays: reading -/
theorem g_iald (hx : p.tables.exec = Jvm.exec) (hb : c.code = cc) (hG : gW X F V ws s H locs) {n : Nat} {f : Nat → Int32} (hat : va_at X.1 gCL (a, aI (gT X 0) n f) H) {z : Int} (j : Nat) (hz : z = (j : Int) ∧ j < n ∧ n < 2147483648) {v : Int32} (hv : f j = v) (d : decode cc pc = .ok (.iaload, 1))
    (kk : W p l e R s m args below meth c H locs cells slots Q (F0 m (pc + 1) ls (.int v :: rest))) : W p l e R s m args below meth c H locs cells slots Q (F0 m pc ls (.int (zI z) :: .ref a :: rest)) := by
  obtain ⟨rfl, h1, h2⟩ := hz
  subst hv
  exact va_iald (tys := gTY X) hx hb hG.K (gone hat) 0 0 rfl rfl (zI_in h1 h2) d (by rw [zI_clamp (by omega)]; exact kk)
theorem g_cald (hx : p.tables.exec = Jvm.exec) (hb : c.code = cc) (hG : gW X F V ws s H locs) {n : Nat} {f : Nat → Int32} (hat : va_at X.1 gCL (a, aI (gT X 2) n f) H) {z : Int} (j : Nat) (hz : z = (j : Int) ∧ j < n ∧ n < 2147483648) {v : Int32} (hv : f j = v) (d : decode cc pc = .ok (.caload, 1))
    (kk : W p l e R s m args below meth c H locs cells slots Q (F0 m (pc + 1) ls (.int v :: rest))) : W p l e R s m args below meth c H locs cells slots Q (F0 m pc ls (.int (zI z) :: .ref a :: rest)) := by
  obtain ⟨rfl, h1, h2⟩ := hz
  subst hv
  exact va_cald (tys := gTY X) hx hb hG.K (gone hat) 0 2 rfl rfl (zI_in h1 h2) d (by rw [zI_clamp (by omega)]; exact kk)
theorem g_bald (hx : p.tables.exec = Jvm.exec) (hb : c.code = cc) (hG : gW X F V ws s H locs) {n : Nat} {f : Nat → Int32} (hat : va_at X.1 gCL (a, aI (gT X 3) n f) H) {z : Int} (j : Nat) (hz : z = (j : Int) ∧ j < n ∧ n < 2147483648) {v : Int32} (hv : f j = v) (d : decode cc pc = .ok (.baload, 1))
    (kk : W p l e R s m args below meth c H locs cells slots Q (F0 m (pc + 1) ls (.int v :: rest))) : W p l e R s m args below meth c H locs cells slots Q (F0 m pc ls (.int (zI z) :: .ref a :: rest)) := by
  obtain ⟨rfl, h1, h2⟩ := hz
  subst hv
  exact va_bald (tys := gTY X) hx hb hG.K (gone hat) 0 3 rfl rfl (zI_in h1 h2) d (by rw [zI_clamp (by omega)]; exact kk)
theorem g_sald (hx : p.tables.exec = Jvm.exec) (hb : c.code = cc) (hG : gW X F V ws s H locs) {n : Nat} {f : Nat → Int32} (hat : va_at X.1 gCL (a, aI (gT X 4) n f) H) {z : Int} (j : Nat) (hz : z = (j : Int) ∧ j < n ∧ n < 2147483648) {v : Int32} (hv : f j = v) (d : decode cc pc = .ok (.saload, 1))
    (kk : W p l e R s m args below meth c H locs cells slots Q (F0 m (pc + 1) ls (.int v :: rest))) : W p l e R s m args below meth c H locs cells slots Q (F0 m pc ls (.int (zI z) :: .ref a :: rest)) := by
  obtain ⟨rfl, h1, h2⟩ := hz
  subst hv
  exact va_sald (tys := gTY X) hx hb hG.K (gone hat) 0 4 rfl rfl (zI_in h1 h2) d (by rw [zI_clamp (by omega)]; exact kk)
theorem g_zald (hx : p.tables.exec = Jvm.exec) (hb : c.code = cc) (hG : gW X F V ws s H locs) {n : Nat} {f : Nat → Int32} (hat : va_at X.1 gCL (a, aI (gT X 5) n f) H) {z : Int} (j : Nat) (hz : z = (j : Int) ∧ j < n ∧ n < 2147483648) {v : Int32} (hv : f j = v) (d : decode cc pc = .ok (.baload, 1))
    (kk : W p l e R s m args below meth c H locs cells slots Q (F0 m (pc + 1) ls (.int v :: rest))) : W p l e R s m args below meth c H locs cells slots Q (F0 m pc ls (.int (zI z) :: .ref a :: rest)) := by
  obtain ⟨rfl, h1, h2⟩ := hz
  subst hv
  exact va_zald (tys := gTY X) hx hb hG.K (gone hat) 0 5 rfl rfl (zI_in h1 h2) d (by rw [zI_clamp (by omega)]; exact kk)
theorem g_lald (hx : p.tables.exec = Jvm.exec) (hb : c.code = cc) (hG : gW X F V ws s H locs) {n : Nat} {f : Nat → Int64} (hat : va_at X.1 gCL (a, aL (gT X 1) n f) H) {z : Int} (j : Nat) (hz : z = (j : Int) ∧ j < n ∧ n < 2147483648) {v : Int64} (hv : f j = v) (d : decode cc pc = .ok (.laload, 1))
    (kk : W p l e R s m args below meth c H locs cells slots Q (F0 m (pc + 1) ls (.long v :: rest))) : W p l e R s m args below meth c H locs cells slots Q (F0 m pc ls (.int (zI z) :: .ref a :: rest)) := by
  obtain ⟨rfl, h1, h2⟩ := hz
  subst hv
  exact va_lald (tys := gTY X) hx hb hG.K (gone hat) 0 1 rfl rfl (zI_in h1 h2) d (by rw [zI_clamp (by omega)]; exact kk)
/-- an array of references, its component by the number t0 of its type -/
theorem g_aald (hx : p.tables.exec = Jvm.exec) (hb : c.code = cc) (hG : gW X F V ws s H locs) {cA : ClassId} {n : Nat} {f : Nat → Option Nat} (t0 : Nat) {ty : FieldType} (ht : (gTY X)[t0]? = some (cA, ty)) (hr : ty.isReference = true) (hat : va_at X.1 gCL (a, aR cA n f) H) {z : Int} (j : Nat) (hz : z = (j : Int) ∧ j < n ∧ n < 2147483648) {v : Value} (hv : va_rf (f j) = v) (d : decode cc pc = .ok (.aaload, 1))
    (kk : W p l e R s m args below meth c H locs cells slots Q (F0 m (pc + 1) ls (v :: rest))) : W p l e R s m args below meth c H locs cells slots Q (F0 m pc ls (.int (zI z) :: .ref a :: rest)) := by
  obtain ⟨rfl, h1, h2⟩ := hz
  subst hv
  have hin := zI_in h1 h2
  have hcl : (zI (j : Int)).toNatClampNeg = j := zI_clamp (by omega)
  exact W.aald (v := va_rf (f j)) (ty := ty) hx hb hat ((hG.K.2 t0 _ ht).1 n (fun j => va_rf (f j))) hr (fun q => by cases q) (by show ¬ (_ < 0 ∨ (arrV _ _ _).slots.size ≤ _); rw [arrV_size]; exact hin) (by show (arrV _ _ _).slots[_]? = _; rw [hcl, arrV_read _ _ h1]) rfl rfl d kk
theorem g_alen (hx : p.tables.exec = Jvm.exec) (hb : c.code = cc) (hG : gW X F V ws s H locs) {cA : ClassId} {x : vp_A} (t0 : Nat) {ty : FieldType} (ht : (gTY X)[t0]? = some (cA, ty)) (hat : va_at X.1 gCL (a, .inl (cA, x)) H) (d : decode cc pc = .ok (.arraylength, 1))
    (kk : W p l e R s m args below meth c H locs cells slots Q (F0 m (pc + 1) ls (.int (zI (x.1 : Int)) :: rest))) : W p l e R s m args below meth c H locs cells slots Q (F0 m pc ls (.ref a :: rest)) :=
  va_alen (tys := gTY X) (v := zI (x.1 : Int)) hx hb hG.K (gone hat) 0 t0 rfl ht (zI_nat x.1).symm d kk
/-! arrays: writing -/
theorem vset_i (cA : ClassId) (n j : Nat) (f : Nat → Int32) (x : Int32) : (vp_cell cA (n, .inl f)).setSlot j (.int x) = vp_cell cA (n, .inl (upd f j x)) := by
  rw [vp_cell_i, vp_cell_i, arrV_store]
  congr 1
  funext q
  by_cases hq : q = j
  · subst hq; simp [updV, upd]
  · simp [updV, upd, hq]
theorem vset_l (cA : ClassId) (n j : Nat) (f : Nat → Int64) (x : Int64) : (vp_cell cA (n, .inr (.inl f))).setSlot j (.long x) = vp_cell cA (n, .inr (.inl (vp_updL f j x))) := by
  rw [vp_cell_l, vp_cell_l, arrV_store]
  congr 1
  funext q
  by_cases hq : q = j
  · subst hq; simp [updV, vp_updL]
  · simp [updV, vp_updL, hq]
theorem vset_q (cA : ClassId) (n j : Nat) (f : Nat → Option Nat) (x : Option Nat) : (vp_cell cA (n, .inr (.inr (.inr (.inr f))))).setSlot j (va_rf x) = vp_cell cA (n, .inr (.inr (.inr (.inr (va_up f j x))))) := by
  rw [vp_cell_q, vp_cell_q, arrV_store]
  congr 1
  funext q
  by_cases hq : q = j
  · subst hq; simp [updV, va_up]
  · simp [updV, va_up, hq]
theorem g_iast0 (hx : p.tables.exec = Jvm.exec) (hb : c.code = cc) (hG : gW X F V ws s H locs) {n : Nat} {f : Nat → Int32} (hat : va_at X.1 gCL (a, aI (gT X 0) n f) H) {z : Int} (j : Nat) (hz : z = (j : Int) ∧ j < n ∧ n < 2147483648) {x : Int32} (d : decode cc pc = .ok (.iastore, 1))
    (kk : ∀ (H1 : Heap) (i : Nat), va_at X.1 gCL (a, aI (gT X 0) n (upd f j x)) H1 → H1.size = H.size → (∀ q : Nat, q ≠ a → H1[q]? = H[q]?) → W p l e R s m args below meth c H1 (locs ++ [⟨a, i⟩]) cells slots Q (F0 m (pc + 1) ls rest)) : W p l e R s m args below meth c H locs cells slots Q (F0 m pc ls (.int x :: .int (zI z) :: .ref a :: rest)) := by
  obtain ⟨rfl, h1, h2⟩ := hz
  have hin := zI_in h1 h2
  have hcl : (zI (j : Int)).toNatClampNeg = j := zI_clamp (by omega)
  refine W.iast hx hb hat ((hG.K.2 0 _ rfl).1 n (fun j => .int (f j))) (fun q => by cases q) (by show ¬ (_ < 0 ∨ (arrV _ _ _).slots.size ≤ _); rw [arrV_size]; exact hin) rfl rfl d fun H1 e1 e2 e3 => ?_
  rw [hcl] at e1 ⊢
  exact kk H1 _ (by show H1[a]? = some (vp_cell _ _); rw [e1, vset_i]) e2 e3
theorem g_iast (hx : p.tables.exec = Jvm.exec) (hb : c.code = cc) (hG : gW X F V ws s H locs) (q0 : Nat) {n : Nat} {f : Nat → Int32} (he : ws[q0]? = some (a, aI (gT X 0) n f)) {z : Int} (j : Nat) (hz : z = (j : Int) ∧ j < n ∧ n < 2147483648) {x : Int32} (d : decode cc pc = .ok (.iastore, 1))
    (kk : ∀ (H1 : Heap) (locs1 : List Loc), gW X F V (ws.set q0 (a, aI (gT X 0) n (upd f j x))) s H1 locs1 → W p l e R s m args below meth c H1 locs1 cells slots Q (F0 m (pc + 1) ls rest)) : W p l e R s m args below meth c H locs cells slots Q (F0 m pc ls (.int x :: .int (zI z) :: .ref a :: rest)) :=
  g_iast0 hx hb hG (hG.at q0 he) j hz d fun H1 _ e1 e2 e3 => kk H1 _ (hG.wr q0 he e1 e2 e3)
theorem g_iastV (hx : p.tables.exec = Jvm.exec) (hb : c.code = cc) (hG : gW X F V ws s H locs) {r : Nat} {n : Nat} {f : Nat → Int32} (he : V r = some (a, aI (gT X 0) n f)) {z : Int} (j : Nat) (hz : z = (j : Int) ∧ j < n ∧ n < 2147483648) {x : Int32} (d : decode cc pc = .ok (.iastore, 1))
    (kk : ∀ (H1 : Heap) (locs1 : List Loc), gW X F (va_up V r (some (a, aI (gT X 0) n (upd f j x)))) ws s H1 locs1 → W p l e R s m args below meth c H1 locs1 cells slots Q (F0 m (pc + 1) ls rest)) : W p l e R s m args below meth c H locs cells slots Q (F0 m pc ls (.int x :: .int (zI z) :: .ref a :: rest)) :=
  g_iast0 hx hb hG (hG.vo he) j hz d fun H1 _ e1 e2 e3 => kk H1 _ (hG.wrV he e1 e2 e3)
theorem g_cast0 (hx : p.tables.exec = Jvm.exec) (hb : c.code = cc) (hG : gW X F V ws s H locs) {n : Nat} {f : Nat → Int32} (hat : va_at X.1 gCL (a, aI (gT X 2) n f) H) {z : Int} (j : Nat) (hz : z = (j : Int) ∧ j < n ∧ n < 2147483648) {x y : Int32} (hy : narrow .char (.int x) = .int y) (d : decode cc pc = .ok (.castore, 1))
    (kk : ∀ (H1 : Heap) (i : Nat), va_at X.1 gCL (a, aI (gT X 2) n (upd f j y)) H1 → H1.size = H.size → (∀ q : Nat, q ≠ a → H1[q]? = H[q]?) → W p l e R s m args below meth c H1 (locs ++ [⟨a, i⟩]) cells slots Q (F0 m (pc + 1) ls rest)) : W p l e R s m args below meth c H locs cells slots Q (F0 m pc ls (.int x :: .int (zI z) :: .ref a :: rest)) := by
  obtain ⟨rfl, h1, h2⟩ := hz
  have hin := zI_in h1 h2
  have hcl : (zI (j : Int)).toNatClampNeg = j := zI_clamp (by omega)
  refine W.cast hx hb hat ((hG.K.2 2 _ rfl).1 n (fun j => .int (f j))) (fun q => by cases q) (by show ¬ (_ < 0 ∨ (arrV _ _ _).slots.size ≤ _); rw [arrV_size]; exact hin) rfl rfl d fun H1 e1 e2 e3 => ?_
  rw [hcl, hy] at e1
  rw [hcl]
  exact kk H1 _ (by show H1[a]? = some (vp_cell _ _); rw [e1, vset_i]) e2 e3
theorem g_cast (hx : p.tables.exec = Jvm.exec) (hb : c.code = cc) (hG : gW X F V ws s H locs) (q0 : Nat) {n : Nat} {f : Nat → Int32} (he : ws[q0]? = some (a, aI (gT X 2) n f)) {z : Int} (j : Nat) (hz : z = (j : Int) ∧ j < n ∧ n < 2147483648) {x y : Int32} (hy : narrow .char (.int x) = .int y) (d : decode cc pc = .ok (.castore, 1))
    (kk : ∀ (H1 : Heap) (locs1 : List Loc), gW X F V (ws.set q0 (a, aI (gT X 2) n (upd f j y))) s H1 locs1 → W p l e R s m args below meth c H1 locs1 cells slots Q (F0 m (pc + 1) ls rest)) : W p l e R s m args below meth c H locs cells slots Q (F0 m pc ls (.int x :: .int (zI z) :: .ref a :: rest)) :=
  g_cast0 hx hb hG (hG.at q0 he) j hz hy d fun H1 _ e1 e2 e3 => kk H1 _ (hG.wr q0 he e1 e2 e3)
theorem g_castV (hx : p.tables.exec = Jvm.exec) (hb : c.code = cc) (hG : gW X F V ws s H locs) {r : Nat} {n : Nat} {f : Nat → Int32} (he : V r = some (a, aI (gT X 2) n f)) {z : Int} (j : Nat) (hz : z = (j : Int) ∧ j < n ∧ n < 2147483648) {x y : Int32} (hy : narrow .char (.int x) = .int y) (d : decode cc pc = .ok (.castore, 1))
    (kk : ∀ (H1 : Heap) (locs1 : List Loc), gW X F (va_up V r (some (a, aI (gT X 2) n (upd f j y)))) ws s H1 locs1 → W p l e R s m args below meth c H1 locs1 cells slots Q (F0 m (pc + 1) ls rest)) : W p l e R s m args below meth c H locs cells slots Q (F0 m pc ls (.int x :: .int (zI z) :: .ref a :: rest)) :=
  g_cast0 hx hb hG (hG.vo he) j hz hy d fun H1 _ e1 e2 e3 => kk H1 _ (hG.wrV he e1 e2 e3)
theorem g_bast0 (hx : p.tables.exec = Jvm.exec) (hb : c.code = cc) (hG : gW X F V ws s H locs) {n : Nat} {f : Nat → Int32} (hat : va_at X.1 gCL (a, aI (gT X 3) n f) H) {z : Int} (j : Nat) (hz : z = (j : Int) ∧ j < n ∧ n < 2147483648) {x y : Int32} (hy : narrow .byte (.int x) = .int y) (d : decode cc pc = .ok (.bastore, 1))
    (kk : ∀ (H1 : Heap) (i : Nat), va_at X.1 gCL (a, aI (gT X 3) n (upd f j y)) H1 → H1.size = H.size → (∀ q : Nat, q ≠ a → H1[q]? = H[q]?) → W p l e R s m args below meth c H1 (locs ++ [⟨a, i⟩]) cells slots Q (F0 m (pc + 1) ls rest)) : W p l e R s m args below meth c H locs cells slots Q (F0 m pc ls (.int x :: .int (zI z) :: .ref a :: rest)) := by
  obtain ⟨rfl, h1, h2⟩ := hz
  have hin := zI_in h1 h2
  have hcl : (zI (j : Int)).toNatClampNeg = j := zI_clamp (by omega)
  refine W.bast hx hb hat ((hG.K.2 3 _ rfl).1 n (fun j => .int (f j))) (fun q => by cases q) (by show ¬ (_ < 0 ∨ (arrV _ _ _).slots.size ≤ _); rw [arrV_size]; exact hin) rfl rfl d fun H1 e1 e2 e3 => ?_
  rw [hcl, hy] at e1
  rw [hcl]
  exact kk H1 _ (by show H1[a]? = some (vp_cell _ _); rw [e1, vset_i]) e2 e3
theorem g_bast (hx : p.tables.exec = Jvm.exec) (hb : c.code = cc) (hG : gW X F V ws s H locs) (q0 : Nat) {n : Nat} {f : Nat → Int32} (he : ws[q0]? = some (a, aI (gT X 3) n f)) {z : Int} (j : Nat) (hz : z = (j : Int) ∧ j < n ∧ n < 2147483648) {x y : Int32} (hy : narrow .byte (.int x) = .int y) (d : decode cc pc = .ok (.bastore, 1))
    (kk : ∀ (H1 : Heap) (locs1 : List Loc), gW X F V (ws.set q0 (a, aI (gT X 3) n (upd f j y))) s H1 locs1 → W p l e R s m args below meth c H1 locs1 cells slots Q (F0 m (pc + 1) ls rest)) : W p l e R s m args below meth c H locs cells slots Q (F0 m pc ls (.int x :: .int (zI z) :: .ref a :: rest)) :=
  g_bast0 hx hb hG (hG.at q0 he) j hz hy d fun H1 _ e1 e2 e3 => kk H1 _ (hG.wr q0 he e1 e2 e3)
theorem g_bastV (hx : p.tables.exec = Jvm.exec) (hb : c.code = cc) (hG : gW X F V ws s H locs) {r : Nat} {n : Nat} {f : Nat → Int32} (he : V r = some (a, aI (gT X 3) n f)) {z : Int} (j : Nat) (hz : z = (j : Int) ∧ j < n ∧ n < 2147483648) {x y : Int32} (hy : narrow .byte (.int x) = .int y) (d : decode cc pc = .ok (.bastore, 1))
    (kk : ∀ (H1 : Heap) (locs1 : List Loc), gW X F (va_up V r (some (a, aI (gT X 3) n (upd f j y)))) ws s H1 locs1 → W p l e R s m args below meth c H1 locs1 cells slots Q (F0 m (pc + 1) ls rest)) : W p l e R s m args below meth c H locs cells slots Q (F0 m pc ls (.int x :: .int (zI z) :: .ref a :: rest)) :=
  g_bast0 hx hb hG (hG.vo he) j hz hy d fun H1 _ e1 e2 e3 => kk H1 _ (hG.wrV he e1 e2 e3)
theorem g_sast0 (hx : p.tables.exec = Jvm.exec) (hb : c.code = cc) (hG : gW X F V ws s H locs) {n : Nat} {f : Nat → Int32} (hat : va_at X.1 gCL (a, aI (gT X 4) n f) H) {z : Int} (j : Nat) (hz : z = (j : Int) ∧ j < n ∧ n < 2147483648) {x y : Int32} (hy : narrow .short (.int x) = .int y) (d : decode cc pc = .ok (.sastore, 1))
    (kk : ∀ (H1 : Heap) (i : Nat), va_at X.1 gCL (a, aI (gT X 4) n (upd f j y)) H1 → H1.size = H.size → (∀ q : Nat, q ≠ a → H1[q]? = H[q]?) → W p l e R s m args below meth c H1 (locs ++ [⟨a, i⟩]) cells slots Q (F0 m (pc + 1) ls rest)) : W p l e R s m args below meth c H locs cells slots Q (F0 m pc ls (.int x :: .int (zI z) :: .ref a :: rest)) := by
  obtain ⟨rfl, h1, h2⟩ := hz
  have hin := zI_in h1 h2
  have hcl : (zI (j : Int)).toNatClampNeg = j := zI_clamp (by omega)
  refine W.sast hx hb hat ((hG.K.2 4 _ rfl).1 n (fun j => .int (f j))) (fun q => by cases q) (by show ¬ (_ < 0 ∨ (arrV _ _ _).slots.size ≤ _); rw [arrV_size]; exact hin) rfl rfl d fun H1 e1 e2 e3 => ?_
  rw [hcl, hy] at e1
  rw [hcl]
  exact kk H1 _ (by show H1[a]? = some (vp_cell _ _); rw [e1, vset_i]) e2 e3
theorem g_sast (hx : p.tables.exec = Jvm.exec) (hb : c.code = cc) (hG : gW X F V ws s H locs) (q0 : Nat) {n : Nat} {f : Nat → Int32} (he : ws[q0]? = some (a, aI (gT X 4) n f)) {z : Int} (j : Nat) (hz : z = (j : Int) ∧ j < n ∧ n < 2147483648) {x y : Int32} (hy : narrow .short (.int x) = .int y) (d : decode cc pc = .ok (.sastore, 1))
    (kk : ∀ (H1 : Heap) (locs1 : List Loc), gW X F V (ws.set q0 (a, aI (gT X 4) n (upd f j y))) s H1 locs1 → W p l e R s m args below meth c H1 locs1 cells slots Q (F0 m (pc + 1) ls rest)) : W p l e R s m args below meth c H locs cells slots Q (F0 m pc ls (.int x :: .int (zI z) :: .ref a :: rest)) :=
  g_sast0 hx hb hG (hG.at q0 he) j hz hy d fun H1 _ e1 e2 e3 => kk H1 _ (hG.wr q0 he e1 e2 e3)
theorem g_sastV (hx : p.tables.exec = Jvm.exec) (hb : c.code = cc) (hG : gW X F V ws s H locs) {r : Nat} {n : Nat} {f : Nat → Int32} (he : V r = some (a, aI (gT X 4) n f)) {z : Int} (j : Nat) (hz : z = (j : Int) ∧ j < n ∧ n < 2147483648) {x y : Int32} (hy : narrow .short (.int x) = .int y) (d : decode cc pc = .ok (.sastore, 1))
    (kk : ∀ (H1 : Heap) (locs1 : List Loc), gW X F (va_up V r (some (a, aI (gT X 4) n (upd f j y)))) ws s H1 locs1 → W p l e R s m args below meth c H1 locs1 cells slots Q (F0 m (pc + 1) ls rest)) : W p l e R s m args below meth c H locs cells slots Q (F0 m pc ls (.int x :: .int (zI z) :: .ref a :: rest)) :=
  g_sast0 hx hb hG (hG.vo he) j hz hy d fun H1 _ e1 e2 e3 => kk H1 _ (hG.wrV he e1 e2 e3)
theorem g_zast0 (hx : p.tables.exec = Jvm.exec) (hb : c.code = cc) (hG : gW X F V ws s H locs) {n : Nat} {f : Nat → Int32} (hat : va_at X.1 gCL (a, aI (gT X 5) n f) H) {z : Int} (j : Nat) (hz : z = (j : Int) ∧ j < n ∧ n < 2147483648) {x y : Int32} (hy : narrow .boolean (.int x) = .int y) (d : decode cc pc = .ok (.bastore, 1))
    (kk : ∀ (H1 : Heap) (i : Nat), va_at X.1 gCL (a, aI (gT X 5) n (upd f j y)) H1 → H1.size = H.size → (∀ q : Nat, q ≠ a → H1[q]? = H[q]?) → W p l e R s m args below meth c H1 (locs ++ [⟨a, i⟩]) cells slots Q (F0 m (pc + 1) ls rest)) : W p l e R s m args below meth c H locs cells slots Q (F0 m pc ls (.int x :: .int (zI z) :: .ref a :: rest)) := by
  obtain ⟨rfl, h1, h2⟩ := hz
  have hin := zI_in h1 h2
  have hcl : (zI (j : Int)).toNatClampNeg = j := zI_clamp (by omega)
  refine W.zast hx hb hat ((hG.K.2 5 _ rfl).1 n (fun j => .int (f j))) (fun q => by cases q) (by show ¬ (_ < 0 ∨ (arrV _ _ _).slots.size ≤ _); rw [arrV_size]; exact hin) rfl rfl d fun H1 e1 e2 e3 => ?_
  rw [hcl, hy] at e1
  rw [hcl]
  exact kk H1 _ (by show H1[a]? = some (vp_cell _ _); rw [e1, vset_i]) e2 e3
theorem g_zast (hx : p.tables.exec = Jvm.exec) (hb : c.code = cc) (hG : gW X F V ws s H locs) (q0 : Nat) {n : Nat} {f : Nat → Int32} (he : ws[q0]? = some (a, aI (gT X 5) n f)) {z : Int} (j : Nat) (hz : z = (j : Int) ∧ j < n ∧ n < 2147483648) {x y : Int32} (hy : narrow .boolean (.int x) = .int y) (d : decode cc pc = .ok (.bastore, 1))
    (kk : ∀ (H1 : Heap) (locs1 : List Loc), gW X F V (ws.set q0 (a, aI (gT X 5) n (upd f j y))) s H1 locs1 → W p l e R s m args below meth c H1 locs1 cells slots Q (F0 m (pc + 1) ls rest)) : W p l e R s m args below meth c H locs cells slots Q (F0 m pc ls (.int x :: .int (zI z) :: .ref a :: rest)) :=
  g_zast0 hx hb hG (hG.at q0 he) j hz hy d fun H1 _ e1 e2 e3 => kk H1 _ (hG.wr q0 he e1 e2 e3)
theorem g_zastV (hx : p.tables.exec = Jvm.exec) (hb : c.code = cc) (hG : gW X F V ws s H locs) {r : Nat} {n : Nat} {f : Nat → Int32} (he : V r = some (a, aI (gT X 5) n f)) {z : Int} (j : Nat) (hz : z = (j : Int) ∧ j < n ∧ n < 2147483648) {x y : Int32} (hy : narrow .boolean (.int x) = .int y) (d : decode cc pc = .ok (.bastore, 1))
    (kk : ∀ (H1 : Heap) (locs1 : List Loc), gW X F (va_up V r (some (a, aI (gT X 5) n (upd f j y)))) ws s H1 locs1 → W p l e R s m args below meth c H1 locs1 cells slots Q (F0 m (pc + 1) ls rest)) : W p l e R s m args below meth c H locs cells slots Q (F0 m pc ls (.int x :: .int (zI z) :: .ref a :: rest)) :=
  g_zast0 hx hb hG (hG.vo he) j hz hy d fun H1 _ e1 e2 e3 => kk H1 _ (hG.wrV he e1 e2 e3)
theorem g_last0 (hx : p.tables.exec = Jvm.exec) (hb : c.code = cc) (hG : gW X F V ws s H locs) {n : Nat} {f : Nat → Int64} (hat : va_at X.1 gCL (a, aL (gT X 1) n f) H) {z : Int} (j : Nat) (hz : z = (j : Int) ∧ j < n ∧ n < 2147483648) {x : Int64} (d : decode cc pc = .ok (.lastore, 1))
    (kk : ∀ (H1 : Heap) (i : Nat), va_at X.1 gCL (a, aL (gT X 1) n (vp_updL f j x)) H1 → H1.size = H.size → (∀ q : Nat, q ≠ a → H1[q]? = H[q]?) → W p l e R s m args below meth c H1 (locs ++ [⟨a, i⟩]) cells slots Q (F0 m (pc + 1) ls rest)) : W p l e R s m args below meth c H locs cells slots Q (F0 m pc ls (.long x :: .int (zI z) :: .ref a :: rest)) := by
  obtain ⟨rfl, h1, h2⟩ := hz
  have hin := zI_in h1 h2
  have hcl : (zI (j : Int)).toNatClampNeg = j := zI_clamp (by omega)
  refine W.last hx hb hat ((hG.K.2 1 _ rfl).1 n (fun j => .long (f j))) (fun q => by cases q) (by show ¬ (_ < 0 ∨ (arrV _ _ _).slots.size ≤ _); rw [arrV_size]; exact hin) rfl rfl d fun H1 e1 e2 e3 => ?_
  rw [hcl] at e1 ⊢
  exact kk H1 _ (by show H1[a]? = some (vp_cell _ _); rw [e1, vset_l]) e2 e3
theorem g_last (hx : p.tables.exec = Jvm.exec) (hb : c.code = cc) (hG : gW X F V ws s H locs) (q0 : Nat) {n : Nat} {f : Nat → Int64} (he : ws[q0]? = some (a, aL (gT X 1) n f)) {z : Int} (j : Nat) (hz : z = (j : Int) ∧ j < n ∧ n < 2147483648) {x : Int64} (d : decode cc pc = .ok (.lastore, 1))
    (kk : ∀ (H1 : Heap) (locs1 : List Loc), gW X F V (ws.set q0 (a, aL (gT X 1) n (vp_updL f j x))) s H1 locs1 → W p l e R s m args below meth c H1 locs1 cells slots Q (F0 m (pc + 1) ls rest)) : W p l e R s m args below meth c H locs cells slots Q (F0 m pc ls (.long x :: .int (zI z) :: .ref a :: rest)) :=
  g_last0 hx hb hG (hG.at q0 he) j hz d fun H1 _ e1 e2 e3 => kk H1 _ (hG.wr q0 he e1 e2 e3)
theorem g_lastV (hx : p.tables.exec = Jvm.exec) (hb : c.code = cc) (hG : gW X F V ws s H locs) {r : Nat} {n : Nat} {f : Nat → Int64} (he : V r = some (a, aL (gT X 1) n f)) {z : Int} (j : Nat) (hz : z = (j : Int) ∧ j < n ∧ n < 2147483648) {x : Int64} (d : decode cc pc = .ok (.lastore, 1))
    (kk : ∀ (H1 : Heap) (locs1 : List Loc), gW X F (va_up V r (some (a, aL (gT X 1) n (vp_updL f j x)))) ws s H1 locs1 → W p l e R s m args below meth c H1 locs1 cells slots Q (F0 m (pc + 1) ls rest)) : W p l e R s m args below meth c H locs cells slots Q (F0 m pc ls (.long x :: .int (zI z) :: .ref a :: rest)) :=
  g_last0 hx hb hG (hG.vo he) j hz d fun H1 _ e1 e2 e3 => kk H1 _ (hG.wrV he e1 e2 e3)
/-- an object v of class C into an array of E -/
theorem g_aast0 (hx : p.tables.exec = Jvm.exec) (hb : c.code = cc) (hG : gW X F V ws s H locs) {cA : ClassId} {n : Nat} {f : Nat → Option Nat} (hat : va_at X.1 gCL (a, aR cA n f) H) (t0 : Nat) {E C : String} (ht : (gTY X)[t0]? = some (cA, .object E)) {v : Nat} (hr : ∃ cellV : Cell, H[v]? = some cellV ∧ cellV.vm.isStatics = false ∧ s.vm.findClass C = some cellV.cls) (hasg : ∀ comp c0 : ClassId, s.vm.findClass E = some comp → s.vm.findClass C = some c0 → s.vm.assignable c0 comp = true) (hkE : ∀ comp, s.vm.findClass E = some comp → ∃ kE : Class, s.vm.classes[comp]? = some kE) {z : Int} (j : Nat) (hz : z = (j : Int) ∧ j < n ∧ n < 2147483648) (d : decode cc pc = .ok (.aastore, 1))
    (kk : ∀ (H1 : Heap) (i : Nat), va_at X.1 gCL (a, aR cA n (va_up f j (some v))) H1 → H1.size = H.size → (∀ q : Nat, q ≠ a → H1[q]? = H[q]?) → W p l e R s m args below meth c H1 (locs ++ [⟨a, i⟩]) cells slots Q (F0 m (pc + 1) ls rest)) : W p l e R s m args below meth c H locs cells slots Q (F0 m pc ls (.ref v :: .int (zI z) :: .ref a :: rest)) := by
  obtain ⟨rfl, h1, h2⟩ := hz
  have hin := zI_in h1 h2
  have hcl : (zI (j : Int)).toNatClampNeg = j := zI_clamp (by omega)
  obtain ⟨cellV, g1, g2, g3⟩ := hr
  obtain ⟨kA, comp, k1, k2, k3, -⟩ := (hG.K.2 t0 _ ht).2
  obtain ⟨kE, hkE⟩ := hkE _ k3
  obtain ⟨kV, hkV, -⟩ := Vm.findClass_spec g3
  refine W.aast hx hb hat (fun q h => by cases h) (fun h => by cases h) k1 k2 rfl hkE ⟨fun q => hin (Or.inl q), by show _ < (arrV _ _ _).slots.size; rw [arrV_size, hcl]; exact h1⟩ g1 (fun q h => by rw [h] at g2; cases g2) hkV (hasg _ _ k3 g3) rfl rfl d fun H1 e1 e2 e3 => ?_
  rw [hcl] at e1 ⊢
  exact kk H1 _ (by show H1[a]? = some (vp_cell _ _); rw [e1]; exact congrArg some (vset_q cA n j f (some v))) e2 e3
theorem g_aast (hx : p.tables.exec = Jvm.exec) (hb : c.code = cc) (hG : gW X F V ws s H locs) (q0 : Nat) {cA : ClassId} {n : Nat} {f : Nat → Option Nat} (he : ws[q0]? = some (a, aR cA n f)) (t0 : Nat) {E C : String} (ht : (gTY X)[t0]? = some (cA, .object E)) {v : Nat} (hr : ∃ cellV : Cell, H[v]? = some cellV ∧ cellV.vm.isStatics = false ∧ s.vm.findClass C = some cellV.cls) (hasg : ∀ comp c0 : ClassId, s.vm.findClass E = some comp → s.vm.findClass C = some c0 → s.vm.assignable c0 comp = true) (hkE : ∀ comp, s.vm.findClass E = some comp → ∃ kE : Class, s.vm.classes[comp]? = some kE) {z : Int} (j : Nat) (hz : z = (j : Int) ∧ j < n ∧ n < 2147483648) (d : decode cc pc = .ok (.aastore, 1))
    (kk : ∀ (H1 : Heap) (locs1 : List Loc), gW X F V (ws.set q0 (a, aR cA n (va_up f j (some v)))) s H1 locs1 → W p l e R s m args below meth c H1 locs1 cells slots Q (F0 m (pc + 1) ls rest)) : W p l e R s m args below meth c H locs cells slots Q (F0 m pc ls (.ref v :: .int (zI z) :: .ref a :: rest)) :=
  g_aast0 hx hb hG (hG.at q0 he) t0 ht hr hasg hkE j hz d fun H1 _ e1 e2 e3 => kk H1 _ (hG.wr q0 he e1 e2 e3)
theorem g_aastV (hx : p.tables.exec = Jvm.exec) (hb : c.code = cc) (hG : gW X F V ws s H locs) {r : Nat} {cA : ClassId} {n : Nat} {f : Nat → Option Nat} (he : V r = some (a, aR cA n f)) (t0 : Nat) {E C : String} (ht : (gTY X)[t0]? = some (cA, .object E)) {v : Nat} (hr : ∃ cellV : Cell, H[v]? = some cellV ∧ cellV.vm.isStatics = false ∧ s.vm.findClass C = some cellV.cls) (hasg : ∀ comp c0 : ClassId, s.vm.findClass E = some comp → s.vm.findClass C = some c0 → s.vm.assignable c0 comp = true) (hkE : ∀ comp, s.vm.findClass E = some comp → ∃ kE : Class, s.vm.classes[comp]? = some kE) {z : Int} (j : Nat) (hz : z = (j : Int) ∧ j < n ∧ n < 2147483648) (d : decode cc pc = .ok (.aastore, 1))
    (kk : ∀ (H1 : Heap) (locs1 : List Loc), gW X F (va_up V r (some (a, aR cA n (va_up f j (some v))))) ws s H1 locs1 → W p l e R s m args below meth c H1 locs1 cells slots Q (F0 m (pc + 1) ls rest)) : W p l e R s m args below meth c H locs cells slots Q (F0 m pc ls (.ref v :: .int (zI z) :: .ref a :: rest)) :=
  g_aast0 hx hb hG (hG.vo he) t0 ht hr hasg hkE j hz d fun H1 _ e1 e2 e3 => kk H1 _ (hG.wrV he e1 e2 e3)
theorem g_aastN0 (hx : p.tables.exec = Jvm.exec) (hb : c.code = cc) (hG : gW X F V ws s H locs) {cA : ClassId} {n : Nat} {f : Nat → Option Nat} (hat : va_at X.1 gCL (a, aR cA n f) H) (t0 : Nat) {E : String} (ht : (gTY X)[t0]? = some (cA, .object E)) {z : Int} (j : Nat) (hz : z = (j : Int) ∧ j < n ∧ n < 2147483648) (d : decode cc pc = .ok (.aastore, 1))
    (kk : ∀ (H1 : Heap) (i : Nat), va_at X.1 gCL (a, aR cA n (va_up f j none)) H1 → H1.size = H.size → (∀ q : Nat, q ≠ a → H1[q]? = H[q]?) → W p l e R s m args below meth c H1 (locs ++ [⟨a, i⟩]) cells slots Q (F0 m (pc + 1) ls rest)) : W p l e R s m args below meth c H locs cells slots Q (F0 m pc ls (.null :: .int (zI z) :: .ref a :: rest)) := by
  obtain ⟨rfl, h1, h2⟩ := hz
  have hin := zI_in h1 h2
  have hcl : (zI (j : Int)).toNatClampNeg = j := zI_clamp (by omega)
  refine va_WaastN (C := E) hx hb hat ((hG.K.2 t0 _ ht).1 n (fun j => va_rf (f j))) (fun h => by cases h) (by show ¬ (_ < 0 ∨ (arrV _ _ _).slots.size ≤ _); rw [arrV_size]; exact hin) rfl rfl d fun H1 e1 e2 e3 => ?_
  rw [hcl] at e1 ⊢
  exact kk H1 _ (by show H1[a]? = some (vp_cell _ _); rw [e1]; exact congrArg some (vset_q cA n j f none)) e2 e3
theorem g_aastN (hx : p.tables.exec = Jvm.exec) (hb : c.code = cc) (hG : gW X F V ws s H locs) (q0 : Nat) {cA : ClassId} {n : Nat} {f : Nat → Option Nat} (he : ws[q0]? = some (a, aR cA n f)) (t0 : Nat) {E : String} (ht : (gTY X)[t0]? = some (cA, .object E)) {z : Int} (j : Nat) (hz : z = (j : Int) ∧ j < n ∧ n < 2147483648) (d : decode cc pc = .ok (.aastore, 1))
    (kk : ∀ (H1 : Heap) (locs1 : List Loc), gW X F V (ws.set q0 (a, aR cA n (va_up f j none))) s H1 locs1 → W p l e R s m args below meth c H1 locs1 cells slots Q (F0 m (pc + 1) ls rest)) : W p l e R s m args below meth c H locs cells slots Q (F0 m pc ls (.null :: .int (zI z) :: .ref a :: rest)) :=
  g_aastN0 hx hb hG (hG.at q0 he) t0 ht j hz d fun H1 _ e1 e2 e3 => kk H1 _ (hG.wr q0 he e1 e2 e3)
theorem g_aastNV (hx : p.tables.exec = Jvm.exec) (hb : c.code = cc) (hG : gW X F V ws s H locs) {r : Nat} {cA : ClassId} {n : Nat} {f : Nat → Option Nat} (he : V r = some (a, aR cA n f)) (t0 : Nat) {E : String} (ht : (gTY X)[t0]? = some (cA, .object E)) {z : Int} (j : Nat) (hz : z = (j : Int) ∧ j < n ∧ n < 2147483648) (d : decode cc pc = .ok (.aastore, 1))
    (kk : ∀ (H1 : Heap) (locs1 : List Loc), gW X F (va_up V r (some (a, aR cA n (va_up f j none)))) ws s H1 locs1 → W p l e R s m args below meth c H1 locs1 cells slots Q (F0 m (pc + 1) ls rest)) : W p l e R s m args below meth c H locs cells slots Q (F0 m pc ls (.null :: .int (zI z) :: .ref a :: rest)) :=
  g_aastN0 hx hb hG (hG.vo he) t0 ht j hz d fun H1 _ e1 e2 e3 => kk H1 _ (hG.wrV he e1 e2 e3)
/-! what is made -/
theorem g_new (hx : p.tables.exec = Jvm.exec) (hb : c.code = cc) {own C : String} {T : u_T} {N ci index : Nat} (hts : ∀ w ∈ lw_all, w.before args s = true) (hin : ∀ w ∈ u_ws C T N, w ∈ lw_all) (ty : Nat → FieldType) (hty : ∀ k, k < N → parseFieldDescriptor (T k).2.2.1 = some (ty k)) (hown : s.vm.findClass own = some m.cls) (hcl : (Cond.classLink own index C).before args s = true) (hinst : (Cond.instantiable C N).before args s = true) (hini : (Cond.initialized C).before args s = true)
    (hG : gW X F V ws s H locs) (hc : gCL[ci]? = some (C, T, N)) {fs : List Value} (hfs : (List.range N).map (fun j => defaultValue (ty j)) = fs) (hr : cells + 1 ≤ R.cells ∧ slots + N ≤ R.slots) (d : decode cc pc = .ok (.new index, 3))
    (kk : ∀ (q : Nat) (H1 : Heap), gW X F V ((q, oB ci fs) :: ws) s H1 locs → W p l e R s m args below meth c H1 locs (cells + 1) (slots + N) Q (F0 m (pc + 3) ls (.ref q :: rest))) : W p l e R s m args below meth c H locs cells slots Q (F0 m pc ls rest) := by
  have hKn := hG.K.1 ci _ hc
  refine W.newcK hx hb hown hcl hinst hini rfl d hr.1 hr.2 hKn.2.1 rfl fun H1 kC hkC e1 z1 o1 => ?_
  refine kk H.size H1 (hG.push rfl ⟨_, hc, (u_born ty hts hin hKn hkC e1 hty).to fun j hj => ?_⟩ (by omega) o1)
  subst hfs
  simp [vp_V, List.getD_eq_getElem?_getD, hj]
theorem g_newa (hx : p.tables.exec = Jvm.exec) (hb : c.code = cc) {atype : ArrayType} (harr : (Cond.arrayClass (newarray.typeOf atype)).before args s = true) (t0 : Nat) {cA : ClassId} {ty : FieldType} (hty : newarray.typeOf atype = ty) (ht : (gTY X)[t0]? = some (cA, ty)) (hRA : va_RA s cA ty → s.vm.findClass ("[" ++ ty.toString) = some cA) (hG : gW X F V ws s H locs)
    {z : Int} {N : Nat} {a0 : vp_A} (ha : ∀ cA : ClassId, vp_cell cA a0 = arrV cA N (fun _ => defaultValue ty)) (hz : z = (N : Int) ∧ N < 1000000) (hb8 : componentBytes ty ≤ 8) (hr : cells + 1 ≤ R.cells ∧ slots + N ≤ R.slots) (d : decode cc pc = .ok (.newarray atype, 2))
    (kk : ∀ (q : Nat) (H1 : Heap), gW X F V ((q, .inl (cA, a0)) :: ws) s H1 locs → W p l e R s m args below meth c H1 locs (cells + 1) (slots + N) Q (F0 m (pc + 2) ls (.ref q :: rest))) : W p l e R s m args below meth c H locs cells slots Q (F0 m pc ls (.int (zI z) :: rest)) := by
  obtain ⟨rfl, hN⟩ := hz
  subst hty
  have hcl : (zI (N : Int)).toNatClampNeg = N := zI_clamp (by omega)
  have h0 : ¬ zI (N : Int) < 0 := by rw [zI_nat]; exact nI_pos (by omega)
  have hbb : N * componentBytes (newarray.typeOf atype) ≤ 536870912 := Nat.le_trans (Nat.mul_le_mul (Nat.le_of_lt hN) hb8) (by decide)
  refine va_newaK hx hb harr rfl d rfl h0 hcl hbb hr.1 hr.2 rfl fun H1 cB e1 z1 o1 hAr hNm => ?_
  have hcc : cA = cB := Option.some.inj ((hRA (hG.K.2 t0 _ ht).2).symm.trans hNm)
  subst hcc
  refine kk H.size H1 (hG.push rfl ?_ (by omega) o1)
  show H1[H.size]? = some (vp_cell _ _)
  rw [ha]
  exact e1
theorem g_newq (hx : p.tables.exec = Jvm.exec) (hb : c.code = cc) {own C : String} {index : Nat} (hown : s.vm.findClass own = some m.cls) (hcl : (Cond.classLink own index C).before args s = true) (hover : va_AO C s) (t0 : Nat) {cA : ClassId} (ht : (gTY X)[t0]? = some (cA, .object C)) (hG : gW X F V ws s H locs) {z : Int} {N : Nat} (hz : z = (N : Int) ∧ N < 1000000) (hr : cells + 1 ≤ R.cells ∧ slots + N ≤ R.slots) (d : decode cc pc = .ok (.anewarray index, 3))
    (kk : ∀ (q : Nat) (H1 : Heap), gW X F V ((q, aR cA N (fun _ => none)) :: ws) s H1 locs → W p l e R s m args below meth c H1 locs (cells + 1) (slots + N) Q (F0 m (pc + 3) ls (.ref q :: rest))) : W p l e R s m args below meth c H locs cells slots Q (F0 m pc ls (.int (zI z) :: rest)) := by
  obtain ⟨rfl, hN⟩ := hz
  have hcl2 : (zI (N : Int)).toNatClampNeg = N := zI_clamp (by omega)
  have h0 : ¬ zI (N : Int) < 0 := by rw [zI_nat]; exact nI_pos (by omega)
  refine W.anew hx hb hown hcl (va_AO.use hover) rfl d rfl h0 (by rw [hcl2]; omega) hr.1 (by rw [hcl2]; exact hr.2) fun cB kA comp f1 f2 f3 f4 => ?_
  rw [hcl2]
  obtain ⟨kA', comp', k1, k2, k3, k4⟩ := (hG.K.2 t0 _ ht).2
  have hcc : cA = cB := Option.some.inj (k4.symm.trans f1)
  subst hcc
  refine kk H.size _ (hG.push rfl ?_ (by rw [Array.size_push]; omega) (fun q hq => by rw [Array.getElem?_push, if_neg (Nat.ne_of_lt hq)]))
  show (H.push _)[H.size]? = some (vp_cell _ _)
  rw [Array.getElem?_push_size, vp_cell_q, ← arrV_new]
  rfl
/-! references that may be null -/
theorem va_rf_cat (o : Option Nat) : (va_rf o).category = 1 := by cases o <;> rfl
theorem g_aload_nq (hx : p.tables.exec = Jvm.exec) (hb : c.code = cc) {k : Fin 4} {i : Nat} {o : Option Nat} (d : decode cc pc = .ok (.aload_n k, 1)) (hi : (k : Nat) = i) (hl : ls[i]? = some (.val (va_rf o)))
    (kk : W p l e R s m args below meth c H locs cells slots Q (F0 m (pc + 1) ls (va_rf o :: rest))) : W p l e R s m args below meth c H locs cells slots Q (F0 m pc ls rest) := by
  cases o with
  | none => exact lv_aload_nN hx hb d hi hl kk
  | some a => exact lv_aload_n hx hb d hi hl kk
theorem g_aloadq (hx : p.tables.exec = Jvm.exec) (hb : c.code = cc) {i : Nat} {o : Option Nat} (d : decode cc pc = .ok (.aload i, 2)) (hl : ls[i]? = some (.val (va_rf o)))
    (kk : W p l e R s m args below meth c H locs cells slots Q (F0 m (pc + 2) ls (va_rf o :: rest))) : W p l e R s m args below meth c H locs cells slots Q (F0 m pc ls rest) := by
  cases o with
  | none => exact lv_aloadN hx hb d hl kk
  | some a => exact lv_aload hx hb d hl kk
theorem g_astore_nq (hx : p.tables.exec = Jvm.exec) (hb : c.code = cc) {k : Fin 4} {i nL : Nat} {o : Option Nat} {lv lv' : List (Nat × Value)} (d : decode cc pc = .ok (.astore_n k, 1)) (hi : (k : Nat) = i) (h : lv_has ls nL lv) (hn : i < nL) (hl : (i, va_rf o) :: lv.filter (fun q => !(q.1 == i) && !(q.1 + 1 == i && q.2.category == 2)) = lv')
    (kk : ∀ ls' : Array Slot, lv_has ls' nL lv' → W p l e R s m args below meth c H locs cells slots Q (F0 m (pc + 1) ls' rest)) : W p l e R s m args below meth c H locs cells slots Q (F0 m pc ls (va_rf o :: rest)) := by
  cases o with
  | none => exact lv_astore_nN hx hb d hi h hn hl kk
  | some a => exact lv_astore_n hx hb d hi h hn hl kk
theorem g_astoreq (hx : p.tables.exec = Jvm.exec) (hb : c.code = cc) {i nL : Nat} {o : Option Nat} {lv lv' : List (Nat × Value)} (d : decode cc pc = .ok (.astore i, 2)) (h : lv_has ls nL lv) (hn : i < nL) (hl : (i, va_rf o) :: lv.filter (fun q => !(q.1 == i) && !(q.1 + 1 == i && q.2.category == 2)) = lv')
    (kk : ∀ ls' : Array Slot, lv_has ls' nL lv' → W p l e R s m args below meth c H locs cells slots Q (F0 m (pc + 2) ls' rest)) : W p l e R s m args below meth c H locs cells slots Q (F0 m pc ls (va_rf o :: rest)) := by
  cases o with
  | none => exact lv_astoreN hx hb d h hn hl kk
  | some a => exact lv_astore hx hb d h hn hl kk
theorem g_ifnull (hx : p.tables.exec = Jvm.exec) (hb : c.code = cc) {o : Option Nat} {off : Int} {tgt : Nat} (d : decode cc pc = .ok (.ifnull off, 3)) (ht : (pc : Int) + off = (tgt : Int)) (kt : o = none → W p l e R s m args below meth c H locs cells slots Q (F0 m tgt ls rest)) (kf : o ≠ none → W p l e R s m args below meth c H locs cells slots Q (F0 m (pc + 3) ls rest)) : W p l e R s m args below meth c H locs cells slots Q (F0 m pc ls (va_rf o :: rest)) := by
  cases o with
  | none => exact lv_ifnullN hx hb d ht (kt rfl)
  | some a => exact lv_ifnull hx hb d (kf (fun h => by cases h))
theorem g_ifnonnull (hx : p.tables.exec = Jvm.exec) (hb : c.code = cc) {o : Option Nat} {off : Int} {tgt : Nat} (d : decode cc pc = .ok (.ifnonnull off, 3)) (ht : (pc : Int) + off = (tgt : Int)) (kt : o ≠ none → W p l e R s m args below meth c H locs cells slots Q (F0 m tgt ls rest)) (kf : o = none → W p l e R s m args below meth c H locs cells slots Q (F0 m (pc + 3) ls rest)) : W p l e R s m args below meth c H locs cells slots Q (F0 m pc ls (va_rf o :: rest)) := by
  cases o with
  | none => exact lv_ifnonnullN hx hb d (kf rfl)
  | some a => exact lv_ifnonnull hx hb d ht (kt (fun h => by cases h))
theorem va_rf_nar (o : Option Nat) (C : String) : narrow (.object C) (va_rf o) = va_rf o := by cases o <;> rfl
theorem va_rf_fit (o : Option Nat) (C : String) : fits (.object C) (va_rf o) = true := by cases o <;> rfl
/-! ends -/
theorem gW.atEnd {X : gX} {F : gF} {V : gV} {ws : va_W} {s t : State} {H : Heap} {locs : List Loc} (h : gW X F V ws s H locs) (ht : t.heap = H) : gB X (F, V, ws) t ∧ va_F (gA X) s t := ⟨by unfold gB; rw [ht]; exact h.2.1, va_S.F h.2.2 ht⟩
theorem g_iret {post : Int32 → gF → gV → va_W → Prop} {mc ms : Nat} {v : Int32} (hx : p.tables.exec = Jvm.exec) (hb : c.code = cc) (hr : meth.sig.returnType = some .int) (hlocks : meth.locks = false) (hG : gW X F V ws s H locs) (hp : post v F V ws) (hc : cells ≤ mc ∧ slots ≤ ms) (d : decode cc pc = .ok (.ireturn, 1)) : W p l e R s m args below meth c H locs cells slots (MQ below (gQi X post) args s mc ms (gA X)) (F0 m pc ls [.int v]) :=
  W.widen hc.1 hc.2 (W.iret hx hb hr (fun _ ht _ => ⟨⟨v, (F, V, ws), rfl, hp, (hG.atEnd ht).1⟩, (hG.atEnd ht).2⟩) hG.2.2.2.2 d hlocks)
theorem g_zret {post : Int32 → gF → gV → va_W → Prop} {mc ms : Nat} {v : Int32} (hx : p.tables.exec = Jvm.exec) (hb : c.code = cc) (hr : meth.sig.returnType = some .boolean) (hlocks : meth.locks = false) (hn : narrow .boolean (.int v) = .int v) (hG : gW X F V ws s H locs) (hp : post v F V ws) (hc : cells ≤ mc ∧ slots ≤ ms) (d : decode cc pc = .ok (.ireturn, 1)) : W p l e R s m args below meth c H locs cells slots (MQ below (gQi X post) args s mc ms (gA X)) (F0 m pc ls [.int v]) :=
  W.widen hc.1 hc.2 (W.zret hx hb hr hn (fun _ ht _ => ⟨⟨v, (F, V, ws), rfl, hp, (hG.atEnd ht).1⟩, (hG.atEnd ht).2⟩) hG.2.2.2.2 d hlocks)
theorem g_lret {post : Int64 → gF → gV → va_W → Prop} {mc ms : Nat} {v : Int64} (hx : p.tables.exec = Jvm.exec) (hb : c.code = cc) (hr : meth.sig.returnType = some .long) (hlocks : meth.locks = false) (hG : gW X F V ws s H locs) (hp : post v F V ws) (hc : cells ≤ mc ∧ slots ≤ ms) (d : decode cc pc = .ok (.lreturn, 1)) : W p l e R s m args below meth c H locs cells slots (MQ below (gQl X post) args s mc ms (gA X)) (F0 m pc ls [.long v]) :=
  W.widen hc.1 hc.2 (W.lret hx hb hr (fun _ ht _ => ⟨⟨v, (F, V, ws), rfl, hp, (hG.atEnd ht).1⟩, (hG.atEnd ht).2⟩) hG.2.2.2.2 d hlocks)
theorem g_vret {post : gF → gV → va_W → Prop} {mc ms : Nat} (hx : p.tables.exec = Jvm.exec) (hb : c.code = cc) (hr : meth.sig.returnType = none) (hlocks : meth.locks = false) (hG : gW X F V ws s H locs) (hp : post F V ws) (hc : cells ≤ mc ∧ slots ≤ ms) (d : decode cc pc = .ok (.return_, 1)) : W p l e R s m args below meth c H locs cells slots (MQ below (gQv X post) args s mc ms (gA X)) (F0 m pc ls []) :=
  W.widen hc.1 hc.2 (W.vret hx hb hr (fun _ ht _ => ⟨⟨(F, V, ws), rfl, hp, (hG.atEnd ht).1⟩, (hG.atEnd ht).2⟩) hG.2.2.2.2 d hlocks)
theorem g_rret {post : Nat → gF → gV → va_W → Prop} {mc ms : Nat} {rt : FieldType} (hx : p.tables.exec = Jvm.exec) (hb : c.code = cc) (hr : meth.sig.returnType = some rt) (hrt : (∃ n, rt = .object n) ∨ ∃ t, rt = .array t) (hlocks : meth.locks = false) (hG : gW X F V ws s H locs) (hp : post a F V ws) (hc : cells ≤ mc ∧ slots ≤ ms) (d : decode cc pc = .ok (.areturn, 1)) : W p l e R s m args below meth c H locs cells slots (MQ below (gQr X post) args s mc ms (gA X)) (F0 m pc ls [.ref a]) :=
  W.widen hc.1 hc.2 (W.aret hx hb hr hrt (Or.inr ⟨a, rfl⟩) (fun _ ht _ => ⟨⟨(F, V, ws), a, rfl, trivial, hp, (hG.atEnd ht).1⟩, (hG.atEnd ht).2⟩) hG.2.2.2.2 d hlocks)
theorem g_qret {post : Option Nat → gF → gV → va_W → Prop} {mc ms : Nat} {rt : FieldType} {v : Value} (o : Option Nat) (hv : va_rf o = v) (hx : p.tables.exec = Jvm.exec) (hb : c.code = cc) (hr : meth.sig.returnType = some rt) (hrt : (∃ n, rt = .object n) ∨ ∃ t, rt = .array t) (hlocks : meth.locks = false) (hG : gW X F V ws s H locs) (hp : post o F V ws) (hc : cells ≤ mc ∧ slots ≤ ms) (d : decode cc pc = .ok (.areturn, 1)) : W p l e R s m args below meth c H locs cells slots (MQ below (gQq X post) args s mc ms (gA X)) (F0 m pc ls [v]) := by
  subst hv
  exact W.widen hc.1 hc.2 (W.aret hx hb hr hrt (va_rf_or o) (fun _ ht _ => ⟨⟨o, (F, V, ws), rfl, hp, (hG.atEnd ht).1⟩, (hG.atEnd ht).2⟩) hG.2.2.2.2 d hlocks)
/-! calls -/
theorem g_preS (hG : gW X F V ws s H locs) {As : List Value} : PreS s H (gP X F V ws As) As := ⟨gP.blind, fun _ hU hW => ⟨rfl, hG.st hU hW⟩⟩
theorem g_recv (hG : gW X F V ws s H locs) {ci : Nat} {fs : List Value} {q : vw_C} (hat : va_at X.1 gCL (a, oB ci fs) H) (hc : gCL[ci]? = some q) : ∃ cell : Cell, H[a]? = some cell ∧ cell.vm.isStatics = false ∧ s.vm.findClass q.1 = some cell.cls := va_recv (q0 := 0) hG.K (gone hat) hc rfl
theorem g_preV (hG : gW X F V ws s H locs) {C : String} {As : List Value} (hr : ∃ cell : Cell, H[a]? = some cell ∧ cell.vm.isStatics = false ∧ s.vm.findClass C = some cell.cls) : PreV s H C a (gP X F V ws (.ref a :: As)) As := ⟨gP.blind, hr, fun _ hU hW => ⟨rfl, hG.st hU hW⟩⟩
theorem gW.back {X : gX} {F F' : gF} {V V' : gV} {ws ws' : va_W} {s t : State} {H H1 : Heap} {locs locs1 : List Loc} (h : gW X F V ws s H locs) (ht : t.heap = H1) (hB : gB X (F', V', ws') t) (hS : va_S (gA X) s.heap H1 locs1) : gW X F' V' ws' s H1 locs1 := ⟨h.1, by rw [← ht]; exact hB, hS⟩
variable {mc ms : Nat} {st0 : List Value} {av : Array Value}
theorem g_ci {post : Int32 → gF → gV → va_W → Prop} (hr : va_Run p l e R s m args below meth c H locs cells slots mc ms (F0 m pc ls st0) rest (gQi X post av) (gA X)) (hG : gW X F V ws s H locs)
    (kk : ∀ (r : Int32) (F' : gF) (V' : gV) (ws' : va_W) (H1 : Heap) (locs1 : List Loc), post r F' V' ws' → gW X F' V' ws' s H1 locs1 → W p l e R s m args below meth c H1 locs1 (cells + mc) (slots + ms) Q (F0 m (pc + 3) ls (.int r :: rest))) : W p l e R s m args below meth c H locs cells slots Q (F0 m pc ls st0) :=
  va_calli hr hG.2.2 (fun _ _ h => h) (fun _ h => h) fun r u _ H1 locs1 ht _ hp hB _ _ hS => kk r u.1 u.2.1 u.2.2 H1 locs1 hp (hG.back ht hB hS)
theorem g_cl {post : Int64 → gF → gV → va_W → Prop} (hr : va_Run p l e R s m args below meth c H locs cells slots mc ms (F0 m pc ls st0) rest (gQl X post av) (gA X)) (hG : gW X F V ws s H locs)
    (kk : ∀ (r : Int64) (F' : gF) (V' : gV) (ws' : va_W) (H1 : Heap) (locs1 : List Loc), post r F' V' ws' → gW X F' V' ws' s H1 locs1 → W p l e R s m args below meth c H1 locs1 (cells + mc) (slots + ms) Q (F0 m (pc + 3) ls (.long r :: rest))) : W p l e R s m args below meth c H locs cells slots Q (F0 m pc ls st0) :=
  va_calll hr hG.2.2 (fun _ _ h => h) (fun _ h => h) fun r u _ H1 locs1 ht _ hp hB _ _ hS => kk r u.1 u.2.1 u.2.2 H1 locs1 hp (hG.back ht hB hS)
theorem g_cv {post : gF → gV → va_W → Prop} (hr : va_Run p l e R s m args below meth c H locs cells slots mc ms (F0 m pc ls st0) rest (gQv X post av) (gA X)) (hG : gW X F V ws s H locs)
    (kk : ∀ (F' : gF) (V' : gV) (ws' : va_W) (H1 : Heap) (locs1 : List Loc), post F' V' ws' → gW X F' V' ws' s H1 locs1 → W p l e R s m args below meth c H1 locs1 (cells + mc) (slots + ms) Q (F0 m (pc + 3) ls rest)) : W p l e R s m args below meth c H locs cells slots Q (F0 m pc ls st0) :=
  va_callv hr hG.2.2 (fun _ _ h => h) (fun _ h => h) fun u _ H1 locs1 ht _ hp hB _ _ hS => kk u.1 u.2.1 u.2.2 H1 locs1 hp (hG.back ht hB hS)
theorem g_cq {post : Option Nat → gF → gV → va_W → Prop} (hr : va_Run p l e R s m args below meth c H locs cells slots mc ms (F0 m pc ls st0) rest (gQq X post av) (gA X)) (hG : gW X F V ws s H locs)
    (kk : ∀ (r : Option Nat) (F' : gF) (V' : gV) (ws' : va_W) (H1 : Heap) (locs1 : List Loc), post r F' V' ws' → gW X F' V' ws' s H1 locs1 → W p l e R s m args below meth c H1 locs1 (cells + mc) (slots + ms) Q (F0 m (pc + 3) ls (va_rf r :: rest))) : W p l e R s m args below meth c H locs cells slots Q (F0 m pc ls st0) :=
  va_callq hr hG.2.2 (fun _ _ h => h) (fun _ h => h) fun r u _ H1 locs1 ht _ hp hB _ _ hS => kk r u.1 u.2.1 u.2.2 H1 locs1 hp (hG.back ht hB hS)
theorem g_cr {post : Nat → gF → gV → va_W → Prop} (hr : va_Run p l e R s m args below meth c H locs cells slots mc ms (F0 m pc ls st0) rest (gQr X post av) (gA X)) (hG : gW X F V ws s H locs)
    (kk : ∀ (r : Nat) (F' : gF) (V' : gV) (ws' : va_W) (H1 : Heap) (locs1 : List Loc), post r F' V' ws' → gW X F' V' ws' s H1 locs1 → W p l e R s m args below meth c H1 locs1 (cells + mc) (slots + ms) Q (F0 m (pc + 3) ls (.ref r :: rest))) : W p l e R s m args below meth c H locs cells slots Q (F0 m pc ls st0) :=
  va_callr hr hG.2.2 (fun _ _ h => h) (fun _ h => h) fun u r _ H1 locs1 ht _ _ hB _ _ hS => kk r u.1 u.2.1 u.2.2 H1 locs1 hB.1 (hG.back ht hB.2 hS)
/-! .. of an interface -/
theorem g_Fi {post : Int32 → gF → gV → va_W → Prop} (hr : va_Run5 p l e R s m args below meth c H locs cells slots mc ms (F0 m pc ls st0) rest (gQi X post av) (gA X)) (hG : gW X F V ws s H locs)
    (kk : ∀ (r : Int32) (F' : gF) (V' : gV) (ws' : va_W) (H1 : Heap) (locs1 : List Loc), post r F' V' ws' → gW X F' V' ws' s H1 locs1 → W p l e R s m args below meth c H1 locs1 (cells + mc) (slots + ms) Q (F0 m (pc + 5) ls (.int r :: rest))) : W p l e R s m args below meth c H locs cells slots Q (F0 m pc ls st0) :=
  va_callFi hr hG.2.2 (fun _ _ h => h) (fun _ h => h) fun r u _ H1 locs1 ht _ hp hB _ _ hS => kk r u.1 u.2.1 u.2.2 H1 locs1 hp (hG.back ht hB hS)
theorem g_Fv {post : gF → gV → va_W → Prop} (hr : va_Run5 p l e R s m args below meth c H locs cells slots mc ms (F0 m pc ls st0) rest (gQv X post av) (gA X)) (hG : gW X F V ws s H locs)
    (kk : ∀ (F' : gF) (V' : gV) (ws' : va_W) (H1 : Heap) (locs1 : List Loc), post F' V' ws' → gW X F' V' ws' s H1 locs1 → W p l e R s m args below meth c H1 locs1 (cells + mc) (slots + ms) Q (F0 m (pc + 5) ls rest)) : W p l e R s m args below meth c H locs cells slots Q (F0 m pc ls st0) :=
  va_callFv hr hG.2.2 (fun _ _ h => h) (fun _ h => h) fun u _ H1 locs1 ht _ hp hB _ _ hS => kk u.1 u.2.1 u.2.2 H1 locs1 hp (hG.back ht hB hS)
theorem g_Fq {post : Option Nat → gF → gV → va_W → Prop} (hr : va_Run5 p l e R s m args below meth c H locs cells slots mc ms (F0 m pc ls st0) rest (gQq X post av) (gA X)) (hG : gW X F V ws s H locs)
    (kk : ∀ (r : Option Nat) (F' : gF) (V' : gV) (ws' : va_W) (H1 : Heap) (locs1 : List Loc), post r F' V' ws' → gW X F' V' ws' s H1 locs1 → W p l e R s m args below meth c H1 locs1 (cells + mc) (slots + ms) Q (F0 m (pc + 5) ls (va_rf r :: rest))) : W p l e R s m args below meth c H locs cells slots Q (F0 m pc ls st0) :=
  va_callFq hr hG.2.2 (fun _ _ h => h) (fun _ h => h) fun r u _ H1 locs1 ht _ hp hB _ _ hS => kk r u.1 u.2.1 u.2.2 H1 locs1 hp (hG.back ht hB hS)
theorem g_Fr {post : Nat → gF → gV → va_W → Prop} (hr : va_Run5 p l e R s m args below meth c H locs cells slots mc ms (F0 m pc ls st0) rest (gQr X post av) (gA X)) (hG : gW X F V ws s H locs)
    (kk : ∀ (r : Nat) (F' : gF) (V' : gV) (ws' : va_W) (H1 : Heap) (locs1 : List Loc), post r F' V' ws' → gW X F' V' ws' s H1 locs1 → W p l e R s m args below meth c H1 locs1 (cells + mc) (slots + ms) Q (F0 m (pc + 5) ls (.ref r :: rest))) : W p l e R s m args below meth c H locs cells slots Q (F0 m pc ls st0) :=
  va_callFr hr hG.2.2 (fun _ _ h => h) (fun _ h => h) fun u r _ H1 locs1 ht _ _ hB _ _ hS => kk r u.1 u.2.1 u.2.2 H1 locs1 hB.1 (hG.back ht hB.2 hS)
/-! where branches meet again -/
theorem g_join {σ : Type} (pc2 : Nat) (P : σ → Prop) (st : σ → List Value) {st0 : List Value} (K : ∀ x : σ, P x → W p l e R s m args below meth c H locs cells slots Q (F0 m pc2 ls (st x)))
    (k : (∀ x : σ, P x → W p l e R s m args below meth c H locs cells slots Q (F0 m pc2 ls (st x))) → W p l e R s m args below meth c H locs cells slots Q (F0 m pc ls st0)) : W p l e R s m args below meth c H locs cells slots Q (F0 m pc ls st0) := k K
theorem g_joinL {σ : Type} (pc2 : Nat) (P : σ → Prop) (nL : Nat) (lv : σ → List (Nat × Value)) (st : σ → List Value) {st0 : List Value} (K : ∀ (x : σ) (ls : Array Slot), P x → lv_has ls nL (lv x) → W p l e R s m args below meth c H locs cells slots Q (F0 m pc2 ls (st x)))
    (k : (∀ (x : σ) (ls : Array Slot), P x → lv_has ls nL (lv x) → W p l e R s m args below meth c H locs cells slots Q (F0 m pc2 ls (st x))) → W p l e R s m args below meth c H locs cells slots Q (F0 m pc ls st0)) : W p l e R s m args below meth c H locs cells slots Q (F0 m pc ls st0) := k K
/-! loops: a measure that falls; the room of each round -/
theorem g_loop (I : Nat → Heap → List Loc → Array Slot → Prop) (n0 : Nat) (h0 : I n0 H locs ls) {st : List Value}
    (body : ∀ n : Nat, (∀ n' : Nat, n' < n → ∀ (H : Heap) (locs : List Loc) (ls : Array Slot), I n' H locs ls → W p l e R s m args below meth c H locs cells slots Q (F0 m pc ls st)) → ∀ (H : Heap) (locs : List Loc) (ls : Array Slot), I n H locs ls → W p l e R s m args below meth c H locs cells slots Q (F0 m pc ls st)) : W p l e R s m args below meth c H locs cells slots Q (F0 m pc ls st) := by
  have key : ∀ n : Nat, ∀ (H : Heap) (locs : List Loc) (ls : Array Slot), I n H locs ls → W p l e R s m args below meth c H locs cells slots Q (F0 m pc ls st) := by
    intro n
    induction n using Nat.strongRecOn with
    | _ n ih => exact body n ih
  exact key n0 H locs ls h0
theorem g_loopA (I : Nat → Heap → List Loc → Array Slot → Prop) (n0 kc ks C S : Nat) (h0 : I n0 H locs ls) (hC : cells + n0 * kc ≤ C ∧ slots + n0 * ks ≤ S) {st : List Value}
    (body : ∀ n : Nat, (∀ n' : Nat, n' < n → ∀ (H : Heap) (locs : List Loc) (ls : Array Slot) (cells slots : Nat), cells + n' * kc ≤ C ∧ slots + n' * ks ≤ S → I n' H locs ls → W p l e R s m args below meth c H locs cells slots Q (F0 m pc ls st)) → ∀ (H : Heap) (locs : List Loc) (ls : Array Slot) (cells slots : Nat), cells + n * kc ≤ C ∧ slots + n * ks ≤ S → I n H locs ls → W p l e R s m args below meth c H locs cells slots Q (F0 m pc ls st)) : W p l e R s m args below meth c H locs cells slots Q (F0 m pc ls st) := by
  have key : ∀ n : Nat, ∀ (H : Heap) (locs : List Loc) (ls : Array Slot) (cells slots : Nat), cells + n * kc ≤ C ∧ slots + n * ks ≤ S → I n H locs ls → W p l e R s m args below meth c H locs cells slots Q (F0 m pc ls st) := by
    intro n
    induction n using Nat.strongRecOn with
    | _ n ih => exact body n ih
  exact key n0 H locs ls cells slots hC h0
end GR
/-- a contract, from the method's entry -/
theorem Met.g {l : Launch} {y : MethodName} {cc : ByteArray} {maxL : Nat} {ret : Option FieldType} {rm : Room} {Qc : Array Value → State → Outcome → State → Prop} {mc ms : Nat} {X : gX} {F : gF} {V : gV} {ws : va_W} {av : List Value} (hy : plainName y.cls = true) (hlen : (lg_sl av).length ≤ maxL)
    (body : ∀ (p : Program) (e : Env) (s : State) (m : MethodId) (below : List Frame) (meth : Method) (c : Code) (ls : Array Slot), p.tables.exec = Jvm.exec → c.code = cc → meth.sig.returnType = ret → (∀ w ∈ lw_all, w.before av.toArray s = true) → s.vm.findClass y.cls = some m.cls → meth.locks = false → c.maxLocals = maxL → meth.name = y.name → gW X F V ws s s.heap [] → lv_has ls maxL (lv_args 0 av) →
      W p l e rm s m av.toArray below meth c s.heap [] 0 0 (MQ below Qc av.toArray s mc ms (gA X)) (F0 m 0 ls [])) : Met l y (ws_ y cc maxL ret) rm (gP X F V ws av) Qc mc ms (gA X) := by
  refine Met.ofW (cc := cc) (maxL := maxL) (ret := ret) hy rfl ?_
  intro p e s m args below meth c s₁ B hml hv
  obtain ⟨rfl, hG⟩ := hv
  have hts := atoms_spec (ws := ws_ y cc maxL ret) B.pre
  rw [lg_entry_eq]
  exact body p e s m below meth c _ B.exec B.bytes B.returns (fun w h => hts w (List.mem_cons_of_mem _ h)) (findClass_of_methodNamed B.named) B.notSynchronized hml (name_of_methodNamed B.named B.method).1 (gW.in hG) (lv_entry av hlen)
