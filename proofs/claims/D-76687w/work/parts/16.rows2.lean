/-! MORE ROWS: Math.max, min, compares of longs, switches, longs -/
set_option maxRecDepth 100000
abbrev lR (z : Int) : Prop := -9223372036854775808 ≤ z ∧ z < 9223372036854775808
theorem zL_toInt {z : Int} (h : lR z) : (zL z).toInt = z := Int64.toInt_ofInt_of_le (by have := h.1; omega) (by have := h.2; omega)
theorem zL_of (x : Int64) : x = zL x.toInt := (Int64.ofInt_toInt x).symm
theorem zL_rng (x : Int64) : lR x.toInt := ⟨by have := x.le_toInt; omega, by have := x.toInt_lt; omega⟩
theorem zL_inj {a b : Int} (ha : lR a) (hb : lR b) (h : zL a = zL b) : a = b := by rw [← zL_toInt ha, ← zL_toInt hb, h]
theorem zL_lt {a b : Int} (h : lR a ∧ lR b) : zL a < zL b ↔ a < b := by rw [Int64.lt_iff_toInt_lt, zL_toInt h.1, zL_toInt h.2]
theorem zL_eq {a b : Int} (h : lR a ∧ lR b) : zL a = zL b ↔ a = b := ⟨zL_inj h.1 h.2, fun e => by rw [e]⟩
theorem zI_wide {z : Int} (h : zR z) : (zI z).toInt64 = zL z := by
  have h1 : (zI z).toInt64.toInt = z := by rw [Int32.toInt_toInt64, zI_toInt h]
  have h2 : (zL z).toInt = z := zL_toInt ⟨by have := h.1; omega, by have := h.2; omega⟩
  exact Int64.toInt_inj.mp (h1.trans h2.symm)
theorem q_math_init : (Cond.initialized "java/lang/Math") ∈ lw_all := q124
theorem q_math_max_static : (Cond.static Lib.Math.max.name) ∈ lw_all := q895
theorem q_math_max_code : (Cond.code Lib.Math.max.name Lib.Math.max.code 2 (some .int)) ∈ lw_all := q896
theorem q_math_min_static : (Cond.static Lib.Math.min.name) ∈ lw_all := q911
theorem q_math_min_code : (Cond.code Lib.Math.min.name Lib.Math.min.code 2 (some .int)) ∈ lw_all := q912
section G2
variable {p : Program} {l : Launch} {e : Env} {R : Room} {s : State} {m : MethodId} {args : Array Value} {below : List Frame} {meth : Method} {c : Code} {H : Heap} {locs : List Loc} {cells slots : Nat} {Q : State → Prop}
variable {cc : ByteArray} {pc : Nat} {ls : Array Slot} {rest : List Value}
theorem g_max {own : String} {index : Nat} (hx : p.tables.exec = Jvm.exec) (hb : c.code = cc) (hml : c.maxLocals = ls.size) (hts : ∀ w ∈ lw_all, w.before args s = true) (hown : s.vm.findClass own = some m.cls) (hlink : (Cond.methodLink own index Lib.Math.max.name).before args s = true)
    (hroom : 1 ≤ R.frames ∧ (rest.map fun v => v.category).sum + 13 ≤ R.locals ∧ cells ≤ R.cells ∧ slots ≤ R.slots) {x y : Int} (hr : -2147483648 ≤ x ∧ x < 2147483648 ∧ -2147483648 ≤ y ∧ y < 2147483648) (d : decode cc pc = .ok (.invokestatic index, 3))
    (kk : W p l e R s m args below meth c H locs cells slots Q (F0 m (pc + 3) ls (.int (zI (max x y)) :: rest))) : W p l e R s m args below meth c H locs cells slots Q (F0 m pc ls (.int (zI y) :: .int (zI x) :: rest)) := by
  refine va_mmax hx hb hml hown hlink (hts _ q_math_max_static) (hts _ q_math_init) (hts _ q_math_max_code) hroom.1 hroom.2.1 hroom.2.2.1 hroom.2.2.2 d ?_
  have e1 : (if zI x < zI y then zI y else zI x) = zI (max x y) := by
    by_cases h : x < y
    · rw [if_pos ((zI_lt (zRR hr)).mpr h), Int.max_eq_right (Int.le_of_lt h)]
    · rw [if_neg (fun q => h ((zI_lt (zRR hr)).mp q)), Int.max_eq_left (Int.not_lt.mp h)]
  rw [e1]
  exact kk
theorem g_min {own : String} {index : Nat} (hx : p.tables.exec = Jvm.exec) (hb : c.code = cc) (hml : c.maxLocals = ls.size) (hts : ∀ w ∈ lw_all, w.before args s = true) (hown : s.vm.findClass own = some m.cls) (hlink : (Cond.methodLink own index Lib.Math.min.name).before args s = true)
    (hroom : 1 ≤ R.frames ∧ (rest.map fun v => v.category).sum + 13 ≤ R.locals ∧ cells ≤ R.cells ∧ slots ≤ R.slots) {x y : Int} (hr : -2147483648 ≤ x ∧ x < 2147483648 ∧ -2147483648 ≤ y ∧ y < 2147483648) (d : decode cc pc = .ok (.invokestatic index, 3))
    (kk : W p l e R s m args below meth c H locs cells slots Q (F0 m (pc + 3) ls (.int (zI (min x y)) :: rest))) : W p l e R s m args below meth c H locs cells slots Q (F0 m pc ls (.int (zI y) :: .int (zI x) :: rest)) := by
  refine va_mmin hx hb hml hown hlink (hts _ q_math_min_static) (hts _ q_math_init) (hts _ q_math_min_code) hroom.1 hroom.2.1 hroom.2.2.1 hroom.2.2.2 d ?_
  have e1 : (if zI y < zI x then zI y else zI x) = zI (min x y) := by
    by_cases h : y < x
    · rw [if_pos ((zI_lt (zRR hr).symm).mpr h), Int.min_eq_right (Int.le_of_lt h)]
    · rw [if_neg (fun q => h ((zI_lt (zRR hr).symm).mp q)), Int.min_eq_left (Int.not_lt.mp h)]
  rw [e1]
  exact kk
theorem g_lcmp (hx : p.tables.exec = Jvm.exec) (hb : c.code = cc) {x y : Int64} (d : decode cc pc = .ok (.lcmp, 1))
    (kk : ∀ z : Int, ((z = -1 ∧ x < y) ∨ (z = 0 ∧ x = y) ∨ (z = 1 ∧ y < x)) → W p l e R s m args below meth c H locs cells slots Q (F0 m (pc + 1) ls (.int (zI z) :: rest))) : W p l e R s m args below meth c H locs cells slots Q (F0 m pc ls (.long y :: .long x :: rest)) := by
  refine W.lcmp hx hb d ?_
  unfold lg_cmp
  by_cases h1 : x > y
  · rw [if_pos h1]
    exact kk 1 (Or.inr (Or.inr ⟨rfl, h1⟩))
  · rw [if_neg h1]
    by_cases h2 : x = y
    · rw [if_pos h2]
      exact kk 0 (Or.inr (Or.inl ⟨rfl, h2⟩))
    · rw [if_neg h2]
      have h3 : x < y := by
        have h1 : ¬ y < x := h1
        rw [Int64.lt_iff_toInt_lt] at h1 ⊢
        have h4 : x.toInt ≠ y.toInt := fun q => h2 (Int64.toInt_inj.mp q)
        omega
      exact kk (-1) (Or.inl ⟨rfl, h3⟩)
theorem g_tin (hx : p.tables.exec = Jvm.exec) (hb : c.code = cc) {dflt lo hi : Int} {offs : Array Int} {len : Nat} {z : Int} (k : Int) {off : Int} {tgt : Nat} (d : decode cc pc = .ok (.tableswitch dflt lo hi offs, len)) (hz : z = k) (hk : zR k ∧ lo ≤ k ∧ k ≤ hi) (ho : offs[(k - lo).toNat]? = some off) (ht : (pc : Int) + off = (tgt : Int))
    (kk : W p l e R s m args below meth c H locs cells slots Q (F0 m tgt ls rest)) : W p l e R s m args below meth c H locs cells slots Q (F0 m pc ls (.int (zI z) :: rest)) := by
  subst hz
  have e1 := zI_toInt hk.1
  exact lv_tableIn hx hb d (by rw [e1]; omega) (by rw [e1]; omega) (by rw [e1]; exact ho) ht kk
theorem g_tout (hx : p.tables.exec = Jvm.exec) (hb : c.code = cc) {dflt lo hi : Int} {offs : Array Int} {len : Nat} {z : Int} {tgt : Nat} (d : decode cc pc = .ok (.tableswitch dflt lo hi offs, len)) (hz : -2147483648 ≤ z ∧ z < 2147483648 ∧ (z < lo ∨ hi < z)) (ht : (pc : Int) + dflt = (tgt : Int))
    (kk : W p l e R s m args below meth c H locs cells slots Q (F0 m tgt ls rest)) : W p l e R s m args below meth c H locs cells slots Q (F0 m pc ls (.int (zI z) :: rest)) := by
  have e1 := zI_toInt (z := z) ⟨hz.1, hz.2.1⟩
  exact lv_tableOut hx hb d (by rw [e1]; exact hz.2.2) ht kk
theorem g_i2l (hx : p.tables.exec = Jvm.exec) (hb : c.code = cc) {z : Int} (d : decode cc pc = .ok (.i2l, 1)) (hr : -2147483648 ≤ z ∧ z < 2147483648)
    (kk : W p l e R s m args below meth c H locs cells slots Q (F0 m (pc + 1) ls (.long (zL z) :: rest))) : W p l e R s m args below meth c H locs cells slots Q (F0 m pc ls (.int (zI z) :: rest)) := lv_i2l hx hb d (zI_wide hr) kk
end G2
/-! the reference's state: reading behind writing -/
theorem sI_s {S : mS} {k : Nat} {v : Int} : (sI S k v).1 k = v := if_pos rfl
theorem sI_n {S : mS} {k j : Nat} {v : Int} (h : j ≠ k) : (sI S k v).1 j = S.1 j := if_neg h
theorem sI_a {S : mS} {k : Nat} {v : Int} : (sI S k v).2 = S.2 := rfl
theorem sA_i {S : mS} {k j : Nat} {v : Int} : (sA S k j v).1 = S.1 := rfl
theorem sA_l {S : mS} {k j : Nat} {v : Int} : (sA S k j v).2.2 = S.2.2 := rfl
theorem sA_s {S : mS} {k j : Nat} {v : Int} : (sA S k j v).2.1 k j = v := by simp [sA, mUpA]
theorem sA_n {S : mS} {k j i : Nat} {v : Int} (h : i ≠ j) : (sA S k j v).2.1 k i = S.2.1 k i := by simp [sA, mUpA, h]
theorem sA_o {S : mS} {k k' j : Nat} {v : Int} (h : k' ≠ k) : (sA S k j v).2.1 k' = S.2.1 k' := funext fun i => by simp [sA, mUpA, h]
theorem sL_i {S : mS} {k j : Nat} {v : Int64} : (sL S k j v).1 = S.1 := rfl
theorem sL_a {S : mS} {k j : Nat} {v : Int64} : (sL S k j v).2.1 = S.2.1 := rfl
theorem sL_s {S : mS} {k j : Nat} {v : Int64} : (sL S k j v).2.2 k j = v := by simp [sL, mUpL]
theorem sL_n {S : mS} {k j i : Nat} {v : Int64} (h : i ≠ j) : (sL S k j v).2.2 k i = S.2.2 k i := by simp [sL, mUpL, h]
theorem sL_o {S : mS} {k k' j : Nat} {v : Int64} (h : k' ≠ k) : (sL S k j v).2.2 k' = S.2.2 k' := funext fun i => by simp [sL, mUpL, h]
/-- T is S but for what is scratch: fields 25 on -/
def mReal (S T : mS) : Prop := ∀ k, k < 25 → T.1 k = S.1 k ∧ T.2.1 k = S.2.1 k ∧ T.2.2 k = S.2.2 k
theorem mReal.rf {S : mS} : mReal S S := fun _ _ => ⟨rfl, rfl, rfl⟩
theorem mReal.tr {S T U : mS} (h : mReal S T) (k : mReal T U) : mReal S U := fun j hj => ⟨(k j hj).1.trans (h j hj).1, (k j hj).2.1.trans (h j hj).2.1, (k j hj).2.2.trans (h j hj).2.2⟩
theorem mReal.I {S T : mS} (h : mReal S T) {k : Nat} (hk : 25 ≤ k) (v : Int) : mReal S (sI T k v) := fun j hj => ⟨(sI_n (by omega)).trans (h j hj).1, (h j hj).2⟩
theorem mReal.A {S T : mS} (h : mReal S T) {k : Nat} (hk : 25 ≤ k) (i : Nat) (v : Int) : mReal S (sA T k i v) := fun j hj => ⟨(h j hj).1, (sA_o (by omega)).trans (h j hj).2.1, (h j hj).2.2⟩
