set_option maxRecDepth 100000
/-- what is held is no T -/
def ncH (F : gF) (h0 : Nat) (T : String) : Prop := ∃ (ci : Nat) (fs : List Value) (c : vw_C), F.1 h0 = some (oB ci fs) ∧ gCL[ci]? = some c ∧ (c.1, T) ∈ gNcs ∧ packageOf c.1 ∈ castPackages_1 ∧ c.1.toList.length ≤ 20
section G20
variable {s : State} {H : Heap} {locs : List Loc} {X : gX} {F : gF} {V : gV} {ws : va_W}
theorem rw_recv (hG : gW X F V ws s H locs) {a so : Nat} {fs : List Value} (hso : so ≤ 3) (h : F.1 a = some (oB (5 + so) fs)) : ∃ cell : Cell, H[a]? = some cell ∧ cell.vm.isStatics = false ∧ s.vm.findClass (rwC so) = some cell.cls := by
  obtain rfl | rfl | rfl | rfl : so = 0 ∨ so = 1 ∨ so = 2 ∨ so = 3 := by omega
  · exact g_recv hG (hG.fz h) (ci := 5) rfl
  · exact g_recv hG (hG.fz h) (ci := 6) rfl
  · exact g_recv hG (hG.fz h) (ci := 7) rfl
  · exact g_recv hG (hG.fz h) (ci := 8) rfl
end G20
theorem rw_cast {so : Nat} (hso : so ≤ 3) : (Cond.castable (rwC so) "LineRemarks$Row") ∈ gNWs := by
  obtain rfl | rfl | rfl | rfl : so = 0 ∨ so = 1 ∨ so = 2 ∨ so = 3 := by omega
  · exact qn3782
  · exact qn3785
  · exact qn3783
  · exact qn3784
theorem rw_nc0 {so : Nat} (hso : so ≤ 3) : (rwC so, "LineRemarks$Remark") ∈ gNcs := by
  obtain rfl | rfl | rfl | rfl : so = 0 ∨ so = 1 ∨ so = 2 ∨ so = 3 := by omega
  · exact qc0
  · exact qc7
  · exact qc14
  · exact qc21
theorem rw_ncH0 {F : gF} {a so : Nat} {fs : List Value} (hso : so ≤ 3) (h : F.1 a = some (oB (5 + so) fs)) : ncH F a "LineRemarks$Remark" := by
  obtain rfl | rfl | rfl | rfl : so = 0 ∨ so = 1 ∨ so = 2 ∨ so = 3 := by omega
  · exact ⟨5, fs, _, h, rfl, qc0, by decide +kernel, by decide⟩
  · exact ⟨6, fs, _, h, rfl, qc7, by decide +kernel, by decide⟩
  · exact ⟨7, fs, _, h, rfl, qc14, by decide +kernel, by decide⟩
  · exact ⟨8, fs, _, h, rfl, qc21, by decide +kernel, by decide⟩
theorem rw_nc1 {so : Nat} (hso : so ≤ 3) : (rwC so, "LineRemarks$Point") ∈ gNcs := by
  obtain rfl | rfl | rfl | rfl : so = 0 ∨ so = 1 ∨ so = 2 ∨ so = 3 := by omega
  · exact qc1
  · exact qc8
  · exact qc15
  · exact qc22
theorem rw_ncH1 {F : gF} {a so : Nat} {fs : List Value} (hso : so ≤ 3) (h : F.1 a = some (oB (5 + so) fs)) : ncH F a "LineRemarks$Point" := by
  obtain rfl | rfl | rfl | rfl : so = 0 ∨ so = 1 ∨ so = 2 ∨ so = 3 := by omega
  · exact ⟨5, fs, _, h, rfl, qc1, by decide +kernel, by decide⟩
  · exact ⟨6, fs, _, h, rfl, qc8, by decide +kernel, by decide⟩
  · exact ⟨7, fs, _, h, rfl, qc15, by decide +kernel, by decide⟩
  · exact ⟨8, fs, _, h, rfl, qc22, by decide +kernel, by decide⟩
theorem rw_nc2 {so : Nat} (hso : so ≤ 3) : (rwC so, "LineRemarks$Block") ∈ gNcs := by
  obtain rfl | rfl | rfl | rfl : so = 0 ∨ so = 1 ∨ so = 2 ∨ so = 3 := by omega
  · exact qc2
  · exact qc9
  · exact qc16
  · exact qc23
theorem rw_ncH2 {F : gF} {a so : Nat} {fs : List Value} (hso : so ≤ 3) (h : F.1 a = some (oB (5 + so) fs)) : ncH F a "LineRemarks$Block" := by
  obtain rfl | rfl | rfl | rfl : so = 0 ∨ so = 1 ∨ so = 2 ∨ so = 3 := by omega
  · exact ⟨5, fs, _, h, rfl, qc2, by decide +kernel, by decide⟩
  · exact ⟨6, fs, _, h, rfl, qc9, by decide +kernel, by decide⟩
  · exact ⟨7, fs, _, h, rfl, qc16, by decide +kernel, by decide⟩
  · exact ⟨8, fs, _, h, rfl, qc23, by decide +kernel, by decide⟩
theorem rw_nc3 {so : Nat} (hso : so ≤ 3) : (rwC so, "LineRemarks$Caret") ∈ gNcs := by
  obtain rfl | rfl | rfl | rfl : so = 0 ∨ so = 1 ∨ so = 2 ∨ so = 3 := by omega
  · exact qc3
  · exact qc10
  · exact qc17
  · exact qc24
theorem rw_ncH3 {F : gF} {a so : Nat} {fs : List Value} (hso : so ≤ 3) (h : F.1 a = some (oB (5 + so) fs)) : ncH F a "LineRemarks$Caret" := by
  obtain rfl | rfl | rfl | rfl : so = 0 ∨ so = 1 ∨ so = 2 ∨ so = 3 := by omega
  · exact ⟨5, fs, _, h, rfl, qc3, by decide +kernel, by decide⟩
  · exact ⟨6, fs, _, h, rfl, qc10, by decide +kernel, by decide⟩
  · exact ⟨7, fs, _, h, rfl, qc17, by decide +kernel, by decide⟩
  · exact ⟨8, fs, _, h, rfl, qc24, by decide +kernel, by decide⟩
theorem rw_nc4 {so : Nat} (hso : so ≤ 3) : (rwC so, "LineRemarks$Loose") ∈ gNcs := by
  obtain rfl | rfl | rfl | rfl : so = 0 ∨ so = 1 ∨ so = 2 ∨ so = 3 := by omega
  · exact qc4
  · exact qc11
  · exact qc18
  · exact qc25
theorem rw_ncH4 {F : gF} {a so : Nat} {fs : List Value} (hso : so ≤ 3) (h : F.1 a = some (oB (5 + so) fs)) : ncH F a "LineRemarks$Loose" := by
  obtain rfl | rfl | rfl | rfl : so = 0 ∨ so = 1 ∨ so = 2 ∨ so = 3 := by omega
  · exact ⟨5, fs, _, h, rfl, qc4, by decide +kernel, by decide⟩
  · exact ⟨6, fs, _, h, rfl, qc11, by decide +kernel, by decide⟩
  · exact ⟨7, fs, _, h, rfl, qc18, by decide +kernel, by decide⟩
  · exact ⟨8, fs, _, h, rfl, qc25, by decide +kernel, by decide⟩
theorem rw_nc5 {so : Nat} (hso : so ≤ 3) : (rwC so, "LineRemarks$Wall") ∈ gNcs := by
  obtain rfl | rfl | rfl | rfl : so = 0 ∨ so = 1 ∨ so = 2 ∨ so = 3 := by omega
  · exact qc5
  · exact qc12
  · exact qc19
  · exact qc26
theorem rw_ncH5 {F : gF} {a so : Nat} {fs : List Value} (hso : so ≤ 3) (h : F.1 a = some (oB (5 + so) fs)) : ncH F a "LineRemarks$Wall" := by
  obtain rfl | rfl | rfl | rfl : so = 0 ∨ so = 1 ∨ so = 2 ∨ so = 3 := by omega
  · exact ⟨5, fs, _, h, rfl, qc5, by decide +kernel, by decide⟩
  · exact ⟨6, fs, _, h, rfl, qc12, by decide +kernel, by decide⟩
  · exact ⟨7, fs, _, h, rfl, qc19, by decide +kernel, by decide⟩
  · exact ⟨8, fs, _, h, rfl, qc26, by decide +kernel, by decide⟩
theorem rw_nc6 {so : Nat} (hso : so ≤ 3) : (rwC so, "LineRemarks$Tail") ∈ gNcs := by
  obtain rfl | rfl | rfl | rfl : so = 0 ∨ so = 1 ∨ so = 2 ∨ so = 3 := by omega
  · exact qc6
  · exact qc13
  · exact qc20
  · exact qc27
theorem rw_ncH6 {F : gF} {a so : Nat} {fs : List Value} (hso : so ≤ 3) (h : F.1 a = some (oB (5 + so) fs)) : ncH F a "LineRemarks$Tail" := by
  obtain rfl | rfl | rfl | rfl : so = 0 ∨ so = 1 ∨ so = 2 ∨ so = 3 := by omega
  · exact ⟨5, fs, _, h, rfl, qc6, by decide +kernel, by decide⟩
  · exact ⟨6, fs, _, h, rfl, qc13, by decide +kernel, by decide⟩
  · exact ⟨7, fs, _, h, rfl, qc20, by decide +kernel, by decide⟩
  · exact ⟨8, fs, _, h, rfl, qc27, by decide +kernel, by decide⟩
theorem rm_ncR {F : gF} {a kd : Nat} {fs : List Value} (hkd : kd ≤ 6) (h : F.1 a = some (oB (14 + kd) fs)) : ncH F a "LineRemarks$Row" := by
  obtain rfl | rfl | rfl | rfl | rfl | rfl | rfl : kd = 0 ∨ kd = 1 ∨ kd = 2 ∨ kd = 3 ∨ kd = 4 ∨ kd = 5 ∨ kd = 6 := by omega
  · exact ⟨14, fs, _, h, rfl, qc28, by decide +kernel, by decide⟩
  · exact ⟨15, fs, _, h, rfl, qc29, by decide +kernel, by decide⟩
  · exact ⟨16, fs, _, h, rfl, qc30, by decide +kernel, by decide⟩
  · exact ⟨17, fs, _, h, rfl, qc31, by decide +kernel, by decide⟩
  · exact ⟨18, fs, _, h, rfl, qc32, by decide +kernel, by decide⟩
  · exact ⟨19, fs, _, h, rfl, qc33, by decide +kernel, by decide⟩
  · exact ⟨20, fs, _, h, rfl, qc34, by decide +kernel, by decide⟩
theorem rm_ncH1 {F : gF} {a kd : Nat} {fs : List Value} (hkd : kd ≤ 6) (hu : aUnd (kd : Int) 1 = false) (h : F.1 a = some (oB (14 + kd) fs)) : ncH F a "LineRemarks$Point" := by
  obtain rfl | rfl | rfl | rfl | rfl | rfl | rfl : kd = 0 ∨ kd = 1 ∨ kd = 2 ∨ kd = 3 ∨ kd = 4 ∨ kd = 5 ∨ kd = 6 := by omega
  · exact ⟨14, fs, _, h, rfl, qc35, by decide +kernel, by decide⟩
  · exact absurd hu (by decide)
  · exact ⟨16, fs, _, h, rfl, qc46, by decide +kernel, by decide⟩
  · exact absurd hu (by decide)
  · exact ⟨18, fs, _, h, rfl, qc55, by decide +kernel, by decide⟩
  · exact ⟨19, fs, _, h, rfl, qc60, by decide +kernel, by decide⟩
  · exact absurd hu (by decide)
theorem rm_ncH2 {F : gF} {a kd : Nat} {fs : List Value} (hkd : kd ≤ 6) (hu : aUnd (kd : Int) 2 = false) (h : F.1 a = some (oB (14 + kd) fs)) : ncH F a "LineRemarks$Block" := by
  obtain rfl | rfl | rfl | rfl | rfl | rfl | rfl : kd = 0 ∨ kd = 1 ∨ kd = 2 ∨ kd = 3 ∨ kd = 4 ∨ kd = 5 ∨ kd = 6 := by omega
  · exact ⟨14, fs, _, h, rfl, qc36, by decide +kernel, by decide⟩
  · exact ⟨15, fs, _, h, rfl, qc41, by decide +kernel, by decide⟩
  · exact absurd hu (by decide)
  · exact ⟨17, fs, _, h, rfl, qc51, by decide +kernel, by decide⟩
  · exact ⟨18, fs, _, h, rfl, qc56, by decide +kernel, by decide⟩
  · exact absurd hu (by decide)
  · exact ⟨20, fs, _, h, rfl, qc64, by decide +kernel, by decide⟩
theorem rm_ncH3 {F : gF} {a kd : Nat} {fs : List Value} (hkd : kd ≤ 6) (hu : aUnd (kd : Int) 3 = false) (h : F.1 a = some (oB (14 + kd) fs)) : ncH F a "LineRemarks$Caret" := by
  obtain rfl | rfl | rfl | rfl | rfl | rfl | rfl : kd = 0 ∨ kd = 1 ∨ kd = 2 ∨ kd = 3 ∨ kd = 4 ∨ kd = 5 ∨ kd = 6 := by omega
  · exact ⟨14, fs, _, h, rfl, qc37, by decide +kernel, by decide⟩
  · exact ⟨15, fs, _, h, rfl, qc42, by decide +kernel, by decide⟩
  · exact ⟨16, fs, _, h, rfl, qc47, by decide +kernel, by decide⟩
  · exact absurd hu (by decide)
  · exact ⟨18, fs, _, h, rfl, qc57, by decide +kernel, by decide⟩
  · exact ⟨19, fs, _, h, rfl, qc61, by decide +kernel, by decide⟩
  · exact absurd hu (by decide)
theorem rm_ncH4 {F : gF} {a kd : Nat} {fs : List Value} (hkd : kd ≤ 6) (hu : aUnd (kd : Int) 4 = false) (h : F.1 a = some (oB (14 + kd) fs)) : ncH F a "LineRemarks$Loose" := by
  obtain rfl | rfl | rfl | rfl | rfl | rfl | rfl : kd = 0 ∨ kd = 1 ∨ kd = 2 ∨ kd = 3 ∨ kd = 4 ∨ kd = 5 ∨ kd = 6 := by omega
  · exact ⟨14, fs, _, h, rfl, qc38, by decide +kernel, by decide⟩
  · exact ⟨15, fs, _, h, rfl, qc43, by decide +kernel, by decide⟩
  · exact ⟨16, fs, _, h, rfl, qc48, by decide +kernel, by decide⟩
  · exact ⟨17, fs, _, h, rfl, qc52, by decide +kernel, by decide⟩
  · exact absurd hu (by decide)
  · exact ⟨19, fs, _, h, rfl, qc62, by decide +kernel, by decide⟩
  · exact ⟨20, fs, _, h, rfl, qc65, by decide +kernel, by decide⟩
theorem rm_ncH5 {F : gF} {a kd : Nat} {fs : List Value} (hkd : kd ≤ 6) (hu : aUnd (kd : Int) 5 = false) (h : F.1 a = some (oB (14 + kd) fs)) : ncH F a "LineRemarks$Wall" := by
  obtain rfl | rfl | rfl | rfl | rfl | rfl | rfl : kd = 0 ∨ kd = 1 ∨ kd = 2 ∨ kd = 3 ∨ kd = 4 ∨ kd = 5 ∨ kd = 6 := by omega
  · exact ⟨14, fs, _, h, rfl, qc39, by decide +kernel, by decide⟩
  · exact ⟨15, fs, _, h, rfl, qc44, by decide +kernel, by decide⟩
  · exact ⟨16, fs, _, h, rfl, qc49, by decide +kernel, by decide⟩
  · exact ⟨17, fs, _, h, rfl, qc53, by decide +kernel, by decide⟩
  · exact ⟨18, fs, _, h, rfl, qc58, by decide +kernel, by decide⟩
  · exact absurd hu (by decide)
  · exact ⟨20, fs, _, h, rfl, qc66, by decide +kernel, by decide⟩
theorem rm_ncH6 {F : gF} {a kd : Nat} {fs : List Value} (hkd : kd ≤ 6) (hu : aUnd (kd : Int) 6 = false) (h : F.1 a = some (oB (14 + kd) fs)) : ncH F a "LineRemarks$Tail" := by
  obtain rfl | rfl | rfl | rfl | rfl | rfl | rfl : kd = 0 ∨ kd = 1 ∨ kd = 2 ∨ kd = 3 ∨ kd = 4 ∨ kd = 5 ∨ kd = 6 := by omega
  · exact ⟨14, fs, _, h, rfl, qc40, by decide +kernel, by decide⟩
  · exact ⟨15, fs, _, h, rfl, qc45, by decide +kernel, by decide⟩
  · exact ⟨16, fs, _, h, rfl, qc50, by decide +kernel, by decide⟩
  · exact ⟨17, fs, _, h, rfl, qc54, by decide +kernel, by decide⟩
  · exact ⟨18, fs, _, h, rfl, qc59, by decide +kernel, by decide⟩
  · exact ⟨19, fs, _, h, rfl, qc63, by decide +kernel, by decide⟩
  · exact absurd hu (by decide)
section G21
variable {p : Program} {l : Launch} {e : Env} {R : Room} {s : State} {m : MethodId} {args : Array Value} {below : List Frame} {meth : Method} {c : Code} {H : Heap} {locs : List Loc} {cells slots : Nat} {Q : State → Prop}
variable {cc : ByteArray} {pc : Nat} {ls : Array Slot} {rest : List Value} {X : gX} {F : gF} {V : gV} {ws : va_W} {a : Nat}
/-- a remark is an instance of Remark -/
theorem g_instR (hx : p.tables.exec = Jvm.exec) (hb : c.code = cc) {own : String} {index kd : Nat} (hown : s.vm.findClass own = some m.cls) (hlink : (Cond.classLink own index "LineRemarks$Remark").before args s = true) (hkd : kd ≤ 6) {fs : List Value} (hat : va_at X.1 gCL (a, oB (14 + kd) fs) H) (hG : gW X F V ws s H locs) (d : decode cc pc = .ok (.instanceof index, 3))
    (kk : W p l e R s m args below meth c H locs cells slots Q (F0 m (pc + 3) ls (.int (zI 1) :: rest))) : W p l e R s m args below meth c H locs cells slots Q (F0 m pc ls (.ref a :: rest)) := by
  have k1 : W p l e R s m args below meth c H locs cells slots Q (F0 m (pc + 3) ls (.int 1 :: rest)) := by rw [show (1 : Int32) = zI 1 by decide +kernel]; exact kk
  obtain rfl | rfl | rfl | rfl | rfl | rfl | rfl : kd = 0 ∨ kd = 1 ∨ kd = 2 ∨ kd = 3 ∨ kd = 4 ∨ kd = 5 ∨ kd = 6 := by omega
  · exact va_instE hx hb hown hlink (g_recv hG hat (ci := 14) rfl) d k1
  · exact va_instY hx hb hown hlink (hG.1.2.1.1 _ qn3789) (g_recv hG hat (ci := 15) rfl) d k1
  · exact va_instY hx hb hown hlink (hG.1.2.1.1 _ qn3786) (g_recv hG hat (ci := 16) rfl) d k1
  · exact va_instY hx hb hown hlink (hG.1.2.1.1 _ qn3787) (g_recv hG hat (ci := 17) rfl) d k1
  · exact va_instY hx hb hown hlink (hG.1.2.1.1 _ qn3788) (g_recv hG hat (ci := 18) rfl) d k1
  · exact va_instY hx hb hown hlink (hG.1.2.1.1 _ qn3791) (g_recv hG hat (ci := 19) rfl) d k1
  · exact va_instY hx hb hown hlink (hG.1.2.1.1 _ qn3790) (g_recv hG hat (ci := 20) rfl) d k1
/-- .. and may be cast to it -/
theorem g_castR (hx : p.tables.exec = Jvm.exec) (hb : c.code = cc) {own : String} {index kd : Nat} (hown : s.vm.findClass own = some m.cls) (hlink : (Cond.classLink own index "LineRemarks$Remark").before args s = true) (hkd : kd ≤ 6) {fs : List Value} (hat : va_at X.1 gCL (a, oB (14 + kd) fs) H) (hG : gW X F V ws s H locs) (d : decode cc pc = .ok (.checkcast index, 3))
    (kk : W p l e R s m args below meth c H locs cells slots Q (F0 m (pc + 3) ls (.ref a :: rest))) : W p l e R s m args below meth c H locs cells slots Q (F0 m pc ls (.ref a :: rest)) := by
  obtain rfl | rfl | rfl | rfl | rfl | rfl | rfl : kd = 0 ∨ kd = 1 ∨ kd = 2 ∨ kd = 3 ∨ kd = 4 ∨ kd = 5 ∨ kd = 6 := by omega
  · exact va_castE hx hb hown hlink (g_recv hG hat (ci := 14) rfl) d kk
  · exact va_castY hx hb hown hlink (hG.1.2.1.1 _ qn3789) (g_recv hG hat (ci := 15) rfl) d kk
  · exact va_castY hx hb hown hlink (hG.1.2.1.1 _ qn3786) (g_recv hG hat (ci := 16) rfl) d kk
  · exact va_castY hx hb hown hlink (hG.1.2.1.1 _ qn3787) (g_recv hG hat (ci := 17) rfl) d kk
  · exact va_castY hx hb hown hlink (hG.1.2.1.1 _ qn3788) (g_recv hG hat (ci := 18) rfl) d kk
  · exact va_castY hx hb hown hlink (hG.1.2.1.1 _ qn3791) (g_recv hG hat (ci := 19) rfl) d kk
  · exact va_castY hx hb hown hlink (hG.1.2.1.1 _ qn3790) (g_recv hG hat (ci := 20) rfl) d kk
end G21
set_option maxHeartbeats 4000000 in
theorem metX3_init {l : Launch} {X : gX} {F : gF} {V : gV} {Z : va_W} {sf : Nat} : Met l yX3_init (ws_ yX3_init cX3_init 1 none) ({ frames := 1, cells := 0, slots := 0, locals := 20 }) (gP X F V (Z) [.ref sf]) (gQv X (fun G U ws => F = G ∧ V = U ∧ Z = ws)) 0 0 (gA X) := by
  refine Met.g (by decide) (Nat.le_of_ble_eq_true rfl) ?_
  intro p e s m below meth c ls hx hb hr hts hown hlocks hml hin hG hl
  have hl : lv_has ls 1 [(0, .ref sf)] := hl
  refine lv_aload_n hx hb dX3_init_0 rfl (lv_at hl 0 rfl) ?_
  refine W.objInit hx hb hown (hts _ q378) (hts _ q170) (hts _ q171) rfl (by rw [hml]; exact hl.1) rfl dX3_init_1 (Nat.le_of_ble_eq_true rfl) (Nat.le_of_ble_eq_true rfl) ?_
  refine W.eq (g2 := F0 m 4 ls []) rfl ?_
  exact g_vret hx hb hr hlocks hG (⟨rfl, rfl, rfl⟩) ⟨Nat.le_of_ble_eq_true rfl, Nat.le_of_ble_eq_true rfl⟩ dX3_init_4

set_option maxHeartbeats 4000000 in
theorem metX3_row_n {l : Launch} {X : gX} {F : gF} {V : gV} {Z : va_W} {sf rj : Nat} (hV : V rj = some (sf, oB 3 [.null])) : vx_Met l yX3_row (wsW_ yX3_row cX3_row 2 (some (FieldType.object "LineRemarks$Row")) [(0, 23, 24, 21)]) ({ frames := 5, cells := 1, slots := 7, locals := 110 }) (gP X F V (Z) [.ref sf]) (gQr X (fun _ _ _ _ => False)) (gXc X (fun E q G U ws => E = "LineRemarks$Refused" ∧ gLe F G ∧ isRef G q 3 ∧ V = U ∧ Z = ws)) 1 7 (gA X) := by
  refine vx_Met.gH (by decide) (Nat.le_of_ble_eq_true rfl) ?_
  intro p e s m below meth c ls hx hb hr hts hown hlocks hml hin htab hG hl
  have hl : lv_has ls 2 [(0, .ref sf)] := hl
  refine lv_aload_n hx hb dX3_row_0 rfl (lv_at hl 0 rfl) ?_
  refine g_get (ci := 3) hx hb hts in_X3 hown hG (hG.vo hV) rfl 0 (Nat.le_of_ble_eq_true rfl) (hts _ q379) (fun _ h9 => h9) rfl dX3_row_1 ?_
  refine lv_castN hx hb dX3_row_4 ?_
  refine lv_astore_nN (lv' := [(1, .null), (0, .ref sf)]) hx hb dX3_row_7 rfl hl (by decide) rfl (fun ls hl => ?_)
  refine lv_aload_nN hx hb dX3_row_8 rfl (lv_at hl 0 rfl) ?_
  refine lv_ifnullN (tgt := 16) hx hb dX3_row_9 (by decide) ?_
  refine lv_iconst (v := zI 0) hx hb dX3_row_16 (by decide +kernel) ?_
  refine lv_bipush (v := zI (-3)) hx hb dX3_row_17 (by decide +kernel) ?_
  refine g_xv (vx_runS (As := [.int (zI 0), .int (zI (-3))]) (rest := []) ⟨hx, hb, hml, hown, hts⟩ (metX0_need_f (k := 3)) (va_cwS 2 hts (lw_S q616 q521 q87 q522) rfl rfl rfl (by decide +kernel) ⟨Nat.le_of_ble_eq_true rfl, Nat.le_of_ble_eq_true rfl⟩) (g_preS hG) rfl rfl hl.1 rfl (lv_room (Nat.le_of_ble_eq_true rfl)) dX3_row_19 ⟨Nat.le_of_ble_eq_true rfl, Nat.le_of_ble_eq_true rfl⟩) hG (fun E9 ce9 q9 Fx_4 Vx_5 ws_ H locs hpx hG hce => ?_) (fun F_2 V_3 ws_ H locs hp hG => ?_)
  · obtain ⟨rfl, hle_Fx_4, hq9, rfl, rfl⟩ := hpx
    have hG : gW X Fx_4 V (Z) s H locs := hG
    exact g_out hown hlocks (by rw [htab]; exact (List.forall_mem_cons.mpr ⟨Or.inr ⟨by decide, "java/lang/ClassCastException", hts _ q601, (gW_xt hG).2.2.2.1 _ qc69⟩, (fun z9 hz9 => absurd hz9 List.not_mem_nil)⟩)) hG hce (⟨rfl, hle_Fx_4, hq9, rfl, rfl⟩) ⟨Nat.le_of_ble_eq_true rfl, Nat.le_of_ble_eq_true rfl⟩
  exact hp.elim

set_option maxHeartbeats 4000000 in
theorem metX3_row_f {l : Launch} {X : gX} {F : gF} {V : gV} {Z : va_W} {h0 : Nat} {sf rj : Nat} (hV : V rj = some (sf, oB 3 [.ref h0])) (hnc : ncH F h0 "LineRemarks$Row") (hst : l.stackTraces = false) : vx_Met l yX3_row (wsW_ yX3_row cX3_row 2 (some (FieldType.object "LineRemarks$Row")) [(0, 23, 24, 21)]) ({ frames := 8, cells := 4, slots := 917, locals := 10256 }) (gP X F V (Z) [.ref sf]) (gQr X (fun _ _ _ _ => False)) (gXc X (fun E q G U ws => E = "LineRemarks$Refused" ∧ gLe F G ∧ isRef G q 2 ∧ V = U ∧ Z = ws)) 4 917 (gA X) := by
  refine vx_Met.gH (by decide) (Nat.le_of_ble_eq_true rfl) ?_
  intro p e s m below meth c ls hx hb hr hts hown hlocks hml hin htab hG hl
  have hl : lv_has ls 2 [(0, .ref sf)] := hl
  refine lv_aload_n hx hb dX3_row_0 rfl (lv_at hl 0 rfl) ?_
  refine g_get (ci := 3) hx hb hts in_X3 hown hG (hG.vo hV) rfl 0 (Nat.le_of_ble_eq_true rfl) (hts _ q379) (fun _ h9 => h9) rfl dX3_row_1 ?_
  obtain ⟨ci9, fs9, c9, hh1, hh2, hh3, hh4, hh5⟩ := hnc
  refine g_castNo hx hb hown (hts _ q615) ((gW_xt hG).2.2.2.1 _ hh3) (g_recv hG (hG.fz hh1) hh2) (gW_xt hG).2.2.2.2 ⟨hh4, hh5⟩ ⟨by decide +kernel, by decide⟩ dX3_row_4 (fun tx htx => g_cce hx hst hts hG (hml.trans hl.1.symm).symm htx (Nat.le_of_ble_eq_true rfl) (Nat.le_of_ble_eq_true rfl) ⟨Nat.le_of_ble_eq_true rfl, Nat.le_of_ble_eq_true rfl⟩ hlocks (fun H q9 ce9 hG hce => ?_))
  refine g_catch (name := "java/lang/ClassCastException") hown htab [] ⟨0, 23, 24, 21⟩ [] rfl (fun z9 hz9 => absurd hz9 List.not_mem_nil) (by decide) (by decide) (hts _ q601) (hG.1.2.1.1 _ qn613) hce ?_
  refine lv_astore_n (lv' := [(1, .ref q9), (0, .ref sf)]) hx hb dX3_row_24 rfl hl (by decide) rfl (fun ls hl => ?_)
  refine g_new (ci := 4) hx hb hts in_X5 tyX5 tyX5_ok hown (hts _ q617) (hts _ q497) (hts _ q109) hG rfl (fs := [.null, .null, .null, .null, .null, .int (zI 0), .int (zI 0)]) rfl ⟨Nat.le_of_ble_eq_true rfl, Nat.le_of_ble_eq_true rfl⟩ dX3_row_25 (fun q9 H (hG : gW X F V ((q9, oB 4 [.null, .null, .null, .null, .null, .int (zI 0), .int (zI 0)]) :: Z) s H _) => ?_)
  refine lv_dup hx hb dX3_row_28 rfl ?_
  refine lv_bipush (v := zI (-2)) hx hb dX3_row_29 (by decide +kernel) ?_
  refine g_cv (va_runI (As := [.int (zI (-2))]) (rest := [.ref q9]) ⟨hx, hb, hml, hown, hts⟩ (metX5_init) (cwI 1 hts (lw_meth q507) rfl rfl rfl (hts _ q109) (hts _ q618) (hts _ q506) rfl (by decide +kernel) ⟨Nat.le_of_ble_eq_true rfl, Nat.le_of_ble_eq_true rfl⟩) (g_preS hG) rfl rfl hl.1 rfl (lv_room (Nat.le_of_ble_eq_true rfl)) dX3_row_31 ⟨Nat.le_of_ble_eq_true rfl, Nat.le_of_ble_eq_true rfl⟩) hG (fun F_2 V_3 ws_ H locs hp hG => ?_)
  obtain ⟨rfl, rfl, rfl⟩ := hp
  have hG : gW X F V ((q9, oB 4 [.null, .null, .null, .null, .null, .int (zI 0), .int (zI (-2))]) :: Z) s H locs := hG
  obtain ⟨G9, hle_G9, hq9, hG⟩ := hG.freeze
  have hG : gW X G9 V (Z) s _ _ := hG
  refine vx_athrow hx hb dX3_row_34 ?_
  have hq9 : isRef G9 q9 2 := hq9
  obtain ⟨ce9, hce⟩ := ex_cell hG hq9 (k := (RX5, TX5, 7)) rfl
  exact g_out hown hlocks (by rw [htab]; exact (List.forall_mem_cons.mpr ⟨Or.inl (by decide), (fun z9 hz9 => absurd hz9 List.not_mem_nil)⟩)) hG hce (⟨rfl, hle_G9, hq9, rfl, rfl⟩) ⟨Nat.le_of_ble_eq_true rfl, Nat.le_of_ble_eq_true rfl⟩

set_option maxHeartbeats 4000000 in
theorem metX3_row_t {l : Launch} {X : gX} {F : gF} {V : gV} {Z : va_W} {ro so : Nat} {fs9 : List Value} {sf rj : Nat} (hV : V rj = some (sf, oB 3 [.ref ro])) (hso : so ≤ 3) (hro : F.1 ro = some (oB (5 + so) fs9)) : vx_Met l yX3_row (wsW_ yX3_row cX3_row 2 (some (FieldType.object "LineRemarks$Row")) [(0, 23, 24, 21)]) ({ frames := 1, cells := 0, slots := 0, locals := 21 }) (gP X F V (Z) [.ref sf]) (gQr X (fun u G U ws => ro = u ∧ F = G ∧ V = U ∧ Z = ws)) (gXc X (fun _ _ _ _ _ => False)) 0 0 (gA X) := by
  refine vx_Met.gH (by decide) (Nat.le_of_ble_eq_true rfl) ?_
  intro p e s m below meth c ls hx hb hr hts hown hlocks hml hin htab hG hl
  have hl : lv_has ls 2 [(0, .ref sf)] := hl
  refine lv_aload_n hx hb dX3_row_0 rfl (lv_at hl 0 rfl) ?_
  refine g_get (ci := 3) hx hb hts in_X3 hown hG (hG.vo hV) rfl 0 (Nat.le_of_ble_eq_true rfl) (hts _ q379) (fun _ h9 => h9) rfl dX3_row_1 ?_
  refine va_castY hx hb hown (hts _ q615) (hG.1.2.1.1 _ (rw_cast hso)) (rw_recv hG hso hro) dX3_row_4 ?_
  refine lv_astore_n (lv' := [(1, .ref ro), (0, .ref sf)]) hx hb dX3_row_7 rfl hl (by decide) rfl (fun ls hl => ?_)
  refine lv_aload_n hx hb dX3_row_8 rfl (lv_at hl 0 rfl) ?_
  refine lv_ifnull hx hb dX3_row_9 ?_
  refine lv_iconst (v := zI 1) hx hb dX3_row_12 (by decide +kernel) ?_
  refine lv_goto (tgt := 17) hx hb dX3_row_13 (by decide) ?_
  refine lv_bipush (v := zI (-3)) hx hb dX3_row_17 (by decide +kernel) ?_
  refine g_cv (va_runS (As := [.int (zI 1), .int (zI (-3))]) (rest := []) ⟨hx, hb, hml, hown, hts⟩ (metX0_need_t (b := 1) (by decide)) (va_cwS 2 hts (lw_S q616 q521 q87 q522) rfl rfl rfl (by decide +kernel) ⟨Nat.le_of_ble_eq_true rfl, Nat.le_of_ble_eq_true rfl⟩) (g_preS hG) rfl rfl hl.1 rfl (lv_room (Nat.le_of_ble_eq_true rfl)) dX3_row_19 ⟨Nat.le_of_ble_eq_true rfl, Nat.le_of_ble_eq_true rfl⟩) hG (fun F_2 V_3 ws_ H locs hp hG => ?_)
  obtain ⟨rfl, rfl, rfl⟩ := hp
  have hG : gW X F V (Z) s H locs := hG
  refine lv_aload_n hx hb dX3_row_22 rfl (lv_at hl 0 rfl) ?_
  refine vx_ret ?_
  exact g_rret hx hb hr (Or.inl ⟨_, rfl⟩) hlocks hG (⟨rfl, rfl, rfl, rfl⟩) ⟨Nat.le_of_ble_eq_true rfl, Nat.le_of_ble_eq_true rfl⟩ dX3_row_23

set_option maxHeartbeats 4000000 in
theorem metX3_holdsRemark_n {l : Launch} {X : gX} {F : gF} {V : gV} {Z : va_W} {sf rj : Nat} (hV : V rj = some (sf, oB 3 [.null])) : Met l yX3_holdsRemark (ws_ yX3_holdsRemark cX3_holdsRemark 1 (some FieldType.boolean)) ({ frames := 0, cells := 0, slots := 0, locals := 0 }) (gP X F V (Z) [.ref sf]) (gQi X (fun u G U ws => u = zI 0 ∧ F = G ∧ V = U ∧ Z = ws)) 0 0 (gA X) := by
  refine Met.g (by decide) (Nat.le_of_ble_eq_true rfl) ?_
  intro p e s m below meth c ls hx hb hr hts hown hlocks hml hin hG hl
  have hl : lv_has ls 1 [(0, .ref sf)] := hl
  refine lv_aload_n hx hb dX3_holdsRemark_0 rfl (lv_at hl 0 rfl) ?_
  refine g_get (ci := 3) hx hb hts in_X3 hown hG (hG.vo hV) rfl 0 (Nat.le_of_ble_eq_true rfl) (hts _ q379) (fun _ h9 => h9) rfl dX3_holdsRemark_1 ?_
  refine lv_instN hx hb dX3_holdsRemark_4 ?_
  refine lv_topx (zI 0) (by decide +kernel) ?_
  exact g_zret hx hb hr hlocks rfl hG (⟨rfl, rfl, rfl, rfl⟩) ⟨Nat.le_of_ble_eq_true rfl, Nat.le_of_ble_eq_true rfl⟩ dX3_holdsRemark_7

set_option maxHeartbeats 4000000 in
theorem metX3_holdsRemark_r {l : Launch} {X : gX} {F : gF} {V : gV} {Z : va_W} {ro so : Nat} {fs9 : List Value} {sf rj : Nat} (hV : V rj = some (sf, oB 3 [.ref ro])) (hso : so ≤ 3) (hro : F.1 ro = some (oB (5 + so) fs9)) : Met l yX3_holdsRemark (ws_ yX3_holdsRemark cX3_holdsRemark 1 (some FieldType.boolean)) ({ frames := 0, cells := 0, slots := 0, locals := 0 }) (gP X F V (Z) [.ref sf]) (gQi X (fun u G U ws => u = zI 0 ∧ F = G ∧ V = U ∧ Z = ws)) 0 0 (gA X) := by
  refine Met.g (by decide) (Nat.le_of_ble_eq_true rfl) ?_
  intro p e s m below meth c ls hx hb hr hts hown hlocks hml hin hG hl
  have hl : lv_has ls 1 [(0, .ref sf)] := hl
  refine lv_aload_n hx hb dX3_holdsRemark_0 rfl (lv_at hl 0 rfl) ?_
  refine g_get (ci := 3) hx hb hts in_X3 hown hG (hG.vo hV) rfl 0 (Nat.le_of_ble_eq_true rfl) (hts _ q379) (fun _ h9 => h9) rfl dX3_holdsRemark_1 ?_
  refine va_instNo hx hb hown (hts _ q643) ((gW_xt hG).2.2.2.1 _ (rw_nc0 hso)) (rw_recv hG hso hro) dX3_holdsRemark_4 ?_
  refine lv_topx (zI 0) (by decide +kernel) ?_
  exact g_zret hx hb hr hlocks rfl hG (⟨rfl, rfl, rfl, rfl⟩) ⟨Nat.le_of_ble_eq_true rfl, Nat.le_of_ble_eq_true rfl⟩ dX3_holdsRemark_7

set_option maxHeartbeats 4000000 in
theorem metX3_holdsRemark_m {l : Launch} {X : gX} {F : gF} {V : gV} {Z : va_W} {rm kd : Nat} {fs9 : List Value} {sf rj : Nat} (hV : V rj = some (sf, oB 3 [.ref rm])) (hkd : kd ≤ 6) (hrm : F.1 rm = some (oB (14 + kd) fs9)) : Met l yX3_holdsRemark (ws_ yX3_holdsRemark cX3_holdsRemark 1 (some FieldType.boolean)) ({ frames := 0, cells := 0, slots := 0, locals := 0 }) (gP X F V (Z) [.ref sf]) (gQi X (fun u G U ws => u = zI 1 ∧ F = G ∧ V = U ∧ Z = ws)) 0 0 (gA X) := by
  refine Met.g (by decide) (Nat.le_of_ble_eq_true rfl) ?_
  intro p e s m below meth c ls hx hb hr hts hown hlocks hml hin hG hl
  have hl : lv_has ls 1 [(0, .ref sf)] := hl
  refine lv_aload_n hx hb dX3_holdsRemark_0 rfl (lv_at hl 0 rfl) ?_
  refine g_get (ci := 3) hx hb hts in_X3 hown hG (hG.vo hV) rfl 0 (Nat.le_of_ble_eq_true rfl) (hts _ q379) (fun _ h9 => h9) rfl dX3_holdsRemark_1 ?_
  refine g_instR hx hb hown (hts _ q643) hkd (hG.fz hrm) hG dX3_holdsRemark_4 ?_
  exact g_zret hx hb hr hlocks rfl hG (⟨rfl, rfl, rfl, rfl⟩) ⟨Nat.le_of_ble_eq_true rfl, Nat.le_of_ble_eq_true rfl⟩ dX3_holdsRemark_7

set_option maxHeartbeats 4000000 in
theorem metX3_length_2 {l : Launch} {X : gX} {F : gF} {V : gV} {Z : va_W} {rm i9 : Nat} {ra : Nat → Nat} {r : Rm} (hrm : isRmk F ra rm 2 i9 r) : Met l yX3_length (ws_ yX3_length cX3_length 1 (some FieldType.int)) ({ frames := 0, cells := 0, slots := 0, locals := 0 }) (gP X F V (Z) [.ref rm]) (gQi X (fun u G U ws => u = zI ((rQ r : Int) - (rP r : Int) + 1) ∧ F = G ∧ V = U ∧ Z = ws)) 0 0 (gA X) := by
  refine Met.g (by decide) (Nat.le_of_ble_eq_true rfl) ?_
  intro p e s m below meth c ls hx hb hr hts hown hlocks hml hin hG hl
  have hl : lv_has ls 1 [(0, .ref rm)] := hl
  refine lv_aload_n hx hb dX3_length_0 rfl (lv_at hl 0 rfl) ?_
  refine g_get (ci := 16) hx hb hts in_X18 hown hG (hG.fz (show F.1 rm = some (oB 16 _) from hrm)) rfl 4 (Nat.le_of_ble_eq_true rfl) (hts _ q2093) (u_same (hts _ q2094)) rfl dX3_length_1 ?_
  refine lv_aload_n hx hb dX3_length_4 rfl (lv_at hl 0 rfl) ?_
  refine g_get (ci := 16) hx hb hts in_X18 hown hG (hG.fz (show F.1 rm = some (oB 16 _) from hrm)) rfl 3 (Nat.le_of_ble_eq_true rfl) (hts _ q2087) (u_same (hts _ q2088)) rfl dX3_length_5 ?_
  refine g_isub hx hb dX3_length_8 ?_
  refine lv_iconst (v := zI 1) hx hb dX3_length_9 (by decide +kernel) ?_
  refine g_iadd hx hb dX3_length_10 ?_
  exact g_iret hx hb hr hlocks hG (⟨rfl, rfl, rfl, rfl⟩) ⟨Nat.le_of_ble_eq_true rfl, Nat.le_of_ble_eq_true rfl⟩ dX3_length_11

set_option maxHeartbeats 4000000 in
theorem metX3_length_5 {l : Launch} {X : gX} {F : gF} {V : gV} {Z : va_W} {rm i9 : Nat} {ra : Nat → Nat} {r : Rm} (hrm : isRmk F ra rm 5 i9 r) : Met l yX3_length (ws_ yX3_length cX3_length 1 (some FieldType.int)) ({ frames := 0, cells := 0, slots := 0, locals := 0 }) (gP X F V (Z) [.ref rm]) (gQi X (fun u G U ws => u = zI ((rQ r : Int) - (rP r : Int) + 1) ∧ F = G ∧ V = U ∧ Z = ws)) 0 0 (gA X) := by
  refine Met.g (by decide) (Nat.le_of_ble_eq_true rfl) ?_
  intro p e s m below meth c ls hx hb hr hts hown hlocks hml hin hG hl
  have hl : lv_has ls 1 [(0, .ref rm)] := hl
  refine lv_aload_n hx hb dX3_length_0 rfl (lv_at hl 0 rfl) ?_
  refine g_get (ci := 19) hx hb hts in_X21 hown hG (hG.fz (show F.1 rm = some (oB 19 _) from hrm)) rfl 4 (Nat.le_of_ble_eq_true rfl) (hts _ q2093) (u_same (hts _ q2094)) rfl dX3_length_1 ?_
  refine lv_aload_n hx hb dX3_length_4 rfl (lv_at hl 0 rfl) ?_
  refine g_get (ci := 19) hx hb hts in_X21 hown hG (hG.fz (show F.1 rm = some (oB 19 _) from hrm)) rfl 3 (Nat.le_of_ble_eq_true rfl) (hts _ q2087) (u_same (hts _ q2088)) rfl dX3_length_5 ?_
  refine g_isub hx hb dX3_length_8 ?_
  refine lv_iconst (v := zI 1) hx hb dX3_length_9 (by decide +kernel) ?_
  refine g_iadd hx hb dX3_length_10 ?_
  exact g_iret hx hb hr hlocks hG (⟨rfl, rfl, rfl, rfl⟩) ⟨Nat.le_of_ble_eq_true rfl, Nat.le_of_ble_eq_true rfl⟩ dX3_length_11

set_option maxHeartbeats 4000000 in
theorem metX3_says_n0 {l : Launch} {X : gX} {F : gF} {V : gV} {Z : va_W} {sf rj : Nat} (hV : V rj = some (sf, oB 3 [.null])) : vx_Met l yX3_says (wsW_ yX3_says cX3_says 3 (some FieldType.int) [(0, 233, 234, 21)]) ({ frames := 5, cells := 1, slots := 7, locals := 110 }) (gP X F V (Z) [.ref sf, .int (zI 0)]) (gQi X (fun _ _ _ _ => False)) (gXc X (fun E q G U ws => E = "LineRemarks$Refused" ∧ gLe F G ∧ isRef G q 3 ∧ V = U ∧ Z = ws)) 1 7 (gA X) := by
  refine vx_Met.gH (by decide) (Nat.le_of_ble_eq_true rfl) ?_
  intro p e s m below meth c ls hx hb hr hts hown hlocks hml hin htab hG hl
  have hl : lv_has ls 3 [(0, .ref sf), (1, .int (zI 0))] := hl
  refine lv_iload_n hx hb dX3_says_0 rfl (lv_at hl 1 rfl) ?_
  refine g_tout (tgt := 193) hx hb dX3_says_1 (by decide) (by decide) ?_
  refine lv_aload_n hx hb dX3_says_193 rfl (lv_at hl 0 rfl) ?_
  refine g_get (ci := 3) hx hb hts in_X3 hown hG (hG.vo hV) rfl 0 (Nat.le_of_ble_eq_true rfl) (hts _ q379) (fun _ h9 => h9) rfl dX3_says_194 ?_
  refine lv_ifnonnullN hx hb dX3_says_197 ?_
  refine lv_iconst (v := zI (-1)) hx hb dX3_says_200 (by decide +kernel) ?_
  refine lv_goto (tgt := 214) hx hb dX3_says_201 (by decide) ?_
  refine lv_istore_n (lv' := [(2, .int (zI (-1))), (0, .ref sf), (1, .int (zI 0))]) hx hb dX3_says_214 rfl hl (by decide) rfl (fun ls hl => ?_)
  refine lv_aload_n hx hb dX3_says_215 rfl (lv_at hl 1 rfl) ?_
  refine g_get (ci := 3) hx hb hts in_X3 hown hG (hG.vo hV) rfl 0 (Nat.le_of_ble_eq_true rfl) (hts _ q379) (fun _ h9 => h9) rfl dX3_says_216 ?_
  refine lv_ifnullN (tgt := 226) hx hb dX3_says_219 (by decide) ?_
  refine lv_iconst (v := zI 0) hx hb dX3_says_226 (by decide +kernel) ?_
  refine lv_bipush (v := zI (-3)) hx hb dX3_says_227 (by decide +kernel) ?_
  refine g_xv (vx_runS (As := [.int (zI 0), .int (zI (-3))]) (rest := []) ⟨hx, hb, hml, hown, hts⟩ (metX0_need_f (k := 3)) (va_cwS 2 hts (lw_S q616 q521 q87 q522) rfl rfl rfl (by decide +kernel) ⟨Nat.le_of_ble_eq_true rfl, Nat.le_of_ble_eq_true rfl⟩) (g_preS hG) rfl rfl hl.1 rfl (lv_room (Nat.le_of_ble_eq_true rfl)) dX3_says_229 ⟨Nat.le_of_ble_eq_true rfl, Nat.le_of_ble_eq_true rfl⟩) hG (fun E9 ce9 q9 Fx_4 Vx_5 ws_ H locs hpx hG hce => ?_) (fun F_2 V_3 ws_ H locs hp hG => ?_)
  · obtain ⟨rfl, hle_Fx_4, hq9, rfl, rfl⟩ := hpx
    have hG : gW X Fx_4 V (Z) s H locs := hG
    exact g_out hown hlocks (by rw [htab]; exact (List.forall_mem_cons.mpr ⟨Or.inr ⟨by decide, "java/lang/ClassCastException", hts _ q601, (gW_xt hG).2.2.2.1 _ qc69⟩, (fun z9 hz9 => absurd hz9 List.not_mem_nil)⟩)) hG hce (⟨rfl, hle_Fx_4, hq9, rfl, rfl⟩) ⟨Nat.le_of_ble_eq_true rfl, Nat.le_of_ble_eq_true rfl⟩
  exact hp.elim

set_option maxHeartbeats 4000000 in
theorem metX3_says_f0 {l : Launch} {X : gX} {F : gF} {V : gV} {Z : va_W} {h0 : Nat} {sf rj : Nat} (hV : V rj = some (sf, oB 3 [.ref h0])) (hnc : ncH F h0 "LineRemarks$Remark") (hst : l.stackTraces = false) : vx_Met l yX3_says (wsW_ yX3_says cX3_says 3 (some FieldType.int) [(0, 233, 234, 21)]) ({ frames := 8, cells := 4, slots := 917, locals := 10256 }) (gP X F V (Z) [.ref sf, .int (zI 0)]) (gQi X (fun _ _ _ _ => False)) (gXc X (fun E q G U ws => E = "LineRemarks$Refused" ∧ gLe F G ∧ isRef G q 2 ∧ V = U ∧ Z = ws)) 4 917 (gA X) := by
  refine vx_Met.gH (by decide) (Nat.le_of_ble_eq_true rfl) ?_
  intro p e s m below meth c ls hx hb hr hts hown hlocks hml hin htab hG hl
  have hl : lv_has ls 3 [(0, .ref sf), (1, .int (zI 0))] := hl
  refine lv_iload_n hx hb dX3_says_0 rfl (lv_at hl 1 rfl) ?_
  refine g_tout (tgt := 193) hx hb dX3_says_1 (by decide) (by decide) ?_
  refine lv_aload_n hx hb dX3_says_193 rfl (lv_at hl 0 rfl) ?_
  refine g_get (ci := 3) hx hb hts in_X3 hown hG (hG.vo hV) rfl 0 (Nat.le_of_ble_eq_true rfl) (hts _ q379) (fun _ h9 => h9) rfl dX3_says_194 ?_
  refine lv_ifnonnull (tgt := 204) hx hb dX3_says_197 (by decide) ?_
  refine lv_aload_n hx hb dX3_says_204 rfl (lv_at hl 0 rfl) ?_
  refine g_get (ci := 3) hx hb hts in_X3 hown hG (hG.vo hV) rfl 0 (Nat.le_of_ble_eq_true rfl) (hts _ q379) (fun _ h9 => h9) rfl dX3_says_205 ?_
  obtain ⟨ci9, fs9, c9, hh1, hh2, hh3, hh4, hh5⟩ := hnc
  refine g_castNo hx hb hown (hts _ q643) ((gW_xt hG).2.2.2.1 _ hh3) (g_recv hG (hG.fz hh1) hh2) (gW_xt hG).2.2.2.2 ⟨hh4, hh5⟩ ⟨by decide +kernel, by decide⟩ dX3_says_208 (fun tx htx => g_cce hx hst hts hG (hml.trans hl.1.symm).symm htx (Nat.le_of_ble_eq_true rfl) (Nat.le_of_ble_eq_true rfl) ⟨Nat.le_of_ble_eq_true rfl, Nat.le_of_ble_eq_true rfl⟩ hlocks (fun H q9 ce9 hG hce => ?_))
  refine g_catch (name := "java/lang/ClassCastException") hown htab [] ⟨0, 233, 234, 21⟩ [] rfl (fun z9 hz9 => absurd hz9 List.not_mem_nil) (by decide) (by decide) (hts _ q601) (hG.1.2.1.1 _ qn613) hce ?_
  refine lv_astore_n (lv' := [(2, .ref q9), (0, .ref sf), (1, .int (zI 0))]) hx hb dX3_says_234 rfl hl (by decide) rfl (fun ls hl => ?_)
  refine g_new (ci := 4) hx hb hts in_X5 tyX5 tyX5_ok hown (hts _ q617) (hts _ q497) (hts _ q109) hG rfl (fs := [.null, .null, .null, .null, .null, .int (zI 0), .int (zI 0)]) rfl ⟨Nat.le_of_ble_eq_true rfl, Nat.le_of_ble_eq_true rfl⟩ dX3_says_235 (fun q9 H (hG : gW X F V ((q9, oB 4 [.null, .null, .null, .null, .null, .int (zI 0), .int (zI 0)]) :: Z) s H _) => ?_)
  refine lv_dup hx hb dX3_says_238 rfl ?_
  refine lv_bipush (v := zI (-2)) hx hb dX3_says_239 (by decide +kernel) ?_
  refine g_cv (va_runI (As := [.int (zI (-2))]) (rest := [.ref q9]) ⟨hx, hb, hml, hown, hts⟩ (metX5_init) (cwI 1 hts (lw_meth q507) rfl rfl rfl (hts _ q109) (hts _ q618) (hts _ q506) rfl (by decide +kernel) ⟨Nat.le_of_ble_eq_true rfl, Nat.le_of_ble_eq_true rfl⟩) (g_preS hG) rfl rfl hl.1 rfl (lv_room (Nat.le_of_ble_eq_true rfl)) dX3_says_241 ⟨Nat.le_of_ble_eq_true rfl, Nat.le_of_ble_eq_true rfl⟩) hG (fun F_2 V_3 ws_ H locs hp hG => ?_)
  obtain ⟨rfl, rfl, rfl⟩ := hp
  have hG : gW X F V ((q9, oB 4 [.null, .null, .null, .null, .null, .int (zI 0), .int (zI (-2))]) :: Z) s H locs := hG
  obtain ⟨G9, hle_G9, hq9, hG⟩ := hG.freeze
  have hG : gW X G9 V (Z) s _ _ := hG
  refine vx_athrow hx hb dX3_says_244 ?_
  have hq9 : isRef G9 q9 2 := hq9
  obtain ⟨ce9, hce⟩ := ex_cell hG hq9 (k := (RX5, TX5, 7)) rfl
  exact g_out hown hlocks (by rw [htab]; exact (List.forall_mem_cons.mpr ⟨Or.inl (by decide), (fun z9 hz9 => absurd hz9 List.not_mem_nil)⟩)) hG hce (⟨rfl, hle_G9, hq9, rfl, rfl⟩) ⟨Nat.le_of_ble_eq_true rfl, Nat.le_of_ble_eq_true rfl⟩

set_option maxHeartbeats 4000000 in
theorem metX3_says_t0_0 {l : Launch} {X : gX} {F : gF} {V : gV} {Z : va_W} {rm i9 : Nat} {ra : Nat → Nat} {r : Rm} {sf rj : Nat} (hV : V rj = some (sf, oB 3 [.ref rm])) (hrm : isRmk F ra rm 0 i9 r) : vx_Met l yX3_says (wsW_ yX3_says cX3_says 3 (some FieldType.int) [(0, 233, 234, 21)]) ({ frames := 1, cells := 0, slots := 0, locals := 21 }) (gP X F V (Z) [.ref sf, .int (zI 0)]) (gQi X (fun u G U ws => u = zI (rP r : Int) ∧ F = G ∧ V = U ∧ Z = ws)) (gXc X (fun _ _ _ _ _ => False)) 0 0 (gA X) := by
  refine vx_Met.gH (by decide) (Nat.le_of_ble_eq_true rfl) ?_
  intro p e s m below meth c ls hx hb hr hts hown hlocks hml hin htab hG hl
  have hl : lv_has ls 3 [(0, .ref sf), (1, .int (zI 0))] := hl
  refine lv_iload_n hx hb dX3_says_0 rfl (lv_at hl 1 rfl) ?_
  refine g_tout (tgt := 193) hx hb dX3_says_1 (by decide) (by decide) ?_
  refine lv_aload_n hx hb dX3_says_193 rfl (lv_at hl 0 rfl) ?_
  refine g_get (ci := 3) hx hb hts in_X3 hown hG (hG.vo hV) rfl 0 (Nat.le_of_ble_eq_true rfl) (hts _ q379) (fun _ h9 => h9) rfl dX3_says_194 ?_
  refine lv_ifnonnull (tgt := 204) hx hb dX3_says_197 (by decide) ?_
  refine lv_aload_n hx hb dX3_says_204 rfl (lv_at hl 0 rfl) ?_
  refine g_get (ci := 3) hx hb hts in_X3 hown hG (hG.vo hV) rfl 0 (Nat.le_of_ble_eq_true rfl) (hts _ q379) (fun _ h9 => h9) rfl dX3_says_205 ?_
  refine va_castE hx hb hown (hts _ q643) (g_recv hG (hG.fz (show F.1 rm = some (oB 14 _) from hrm)) (ci := 14) rfl) dX3_says_208 ?_
  refine g_get (ci := 14) hx hb hts in_X16 hown hG (hG.fz (show F.1 rm = some (oB 14 _) from hrm)) rfl 3 (Nat.le_of_ble_eq_true rfl) (hts _ q2089) (fun _ h9 => h9) rfl dX3_says_211 ?_
  refine lv_istore_n (lv' := [(2, .int (zI (rP r : Int))), (0, .ref sf), (1, .int (zI 0))]) hx hb dX3_says_214 rfl hl (by decide) rfl (fun ls hl => ?_)
  refine lv_aload_n hx hb dX3_says_215 rfl (lv_at hl 1 rfl) ?_
  refine g_get (ci := 3) hx hb hts in_X3 hown hG (hG.vo hV) rfl 0 (Nat.le_of_ble_eq_true rfl) (hts _ q379) (fun _ h9 => h9) rfl dX3_says_216 ?_
  refine lv_ifnull hx hb dX3_says_219 ?_
  refine lv_iconst (v := zI 1) hx hb dX3_says_222 (by decide +kernel) ?_
  refine lv_goto (tgt := 227) hx hb dX3_says_223 (by decide) ?_
  refine lv_bipush (v := zI (-3)) hx hb dX3_says_227 (by decide +kernel) ?_
  refine g_cv (va_runS (As := [.int (zI 1), .int (zI (-3))]) (rest := []) ⟨hx, hb, hml, hown, hts⟩ (metX0_need_t (b := 1) (by decide)) (va_cwS 2 hts (lw_S q616 q521 q87 q522) rfl rfl rfl (by decide +kernel) ⟨Nat.le_of_ble_eq_true rfl, Nat.le_of_ble_eq_true rfl⟩) (g_preS hG) rfl rfl hl.1 rfl (lv_room (Nat.le_of_ble_eq_true rfl)) dX3_says_229 ⟨Nat.le_of_ble_eq_true rfl, Nat.le_of_ble_eq_true rfl⟩) hG (fun F_2 V_3 ws_ H locs hp hG => ?_)
  obtain ⟨rfl, rfl, rfl⟩ := hp
  have hG : gW X F V (Z) s H locs := hG
  refine lv_iload_n hx hb dX3_says_232 rfl (lv_at hl 0 rfl) ?_
  refine vx_ret ?_
  exact g_iret hx hb hr hlocks hG (⟨rfl, rfl, rfl, rfl⟩) ⟨Nat.le_of_ble_eq_true rfl, Nat.le_of_ble_eq_true rfl⟩ dX3_says_233

set_option maxHeartbeats 4000000 in
theorem metX3_says_t0_1 {l : Launch} {X : gX} {F : gF} {V : gV} {Z : va_W} {rm i9 : Nat} {ra : Nat → Nat} {r : Rm} {sf rj : Nat} (hV : V rj = some (sf, oB 3 [.ref rm])) (hrm : isRmk F ra rm 1 i9 r) : vx_Met l yX3_says (wsW_ yX3_says cX3_says 3 (some FieldType.int) [(0, 233, 234, 21)]) ({ frames := 1, cells := 0, slots := 0, locals := 21 }) (gP X F V (Z) [.ref sf, .int (zI 0)]) (gQi X (fun u G U ws => u = zI (rP r : Int) ∧ F = G ∧ V = U ∧ Z = ws)) (gXc X (fun _ _ _ _ _ => False)) 0 0 (gA X) := by
  refine vx_Met.gH (by decide) (Nat.le_of_ble_eq_true rfl) ?_
  intro p e s m below meth c ls hx hb hr hts hown hlocks hml hin htab hG hl
  have hl : lv_has ls 3 [(0, .ref sf), (1, .int (zI 0))] := hl
  refine lv_iload_n hx hb dX3_says_0 rfl (lv_at hl 1 rfl) ?_
  refine g_tout (tgt := 193) hx hb dX3_says_1 (by decide) (by decide) ?_
  refine lv_aload_n hx hb dX3_says_193 rfl (lv_at hl 0 rfl) ?_
  refine g_get (ci := 3) hx hb hts in_X3 hown hG (hG.vo hV) rfl 0 (Nat.le_of_ble_eq_true rfl) (hts _ q379) (fun _ h9 => h9) rfl dX3_says_194 ?_
  refine lv_ifnonnull (tgt := 204) hx hb dX3_says_197 (by decide) ?_
  refine lv_aload_n hx hb dX3_says_204 rfl (lv_at hl 0 rfl) ?_
  refine g_get (ci := 3) hx hb hts in_X3 hown hG (hG.vo hV) rfl 0 (Nat.le_of_ble_eq_true rfl) (hts _ q379) (fun _ h9 => h9) rfl dX3_says_205 ?_
  refine va_castY hx hb hown (hts _ q643) (hG.1.2.1.1 _ qn3789) (g_recv hG (hG.fz (show F.1 rm = some (oB 15 _) from hrm)) (ci := 15) rfl) dX3_says_208 ?_
  refine g_get (ci := 15) hx hb hts in_X17 hown hG (hG.fz (show F.1 rm = some (oB 15 _) from hrm)) rfl 3 (Nat.le_of_ble_eq_true rfl) (hts _ q2089) (fun _ h9 => h9) rfl dX3_says_211 ?_
  refine lv_istore_n (lv' := [(2, .int (zI (rP r : Int))), (0, .ref sf), (1, .int (zI 0))]) hx hb dX3_says_214 rfl hl (by decide) rfl (fun ls hl => ?_)
  refine lv_aload_n hx hb dX3_says_215 rfl (lv_at hl 1 rfl) ?_
  refine g_get (ci := 3) hx hb hts in_X3 hown hG (hG.vo hV) rfl 0 (Nat.le_of_ble_eq_true rfl) (hts _ q379) (fun _ h9 => h9) rfl dX3_says_216 ?_
  refine lv_ifnull hx hb dX3_says_219 ?_
  refine lv_iconst (v := zI 1) hx hb dX3_says_222 (by decide +kernel) ?_
  refine lv_goto (tgt := 227) hx hb dX3_says_223 (by decide) ?_
  refine lv_bipush (v := zI (-3)) hx hb dX3_says_227 (by decide +kernel) ?_
  refine g_cv (va_runS (As := [.int (zI 1), .int (zI (-3))]) (rest := []) ⟨hx, hb, hml, hown, hts⟩ (metX0_need_t (b := 1) (by decide)) (va_cwS 2 hts (lw_S q616 q521 q87 q522) rfl rfl rfl (by decide +kernel) ⟨Nat.le_of_ble_eq_true rfl, Nat.le_of_ble_eq_true rfl⟩) (g_preS hG) rfl rfl hl.1 rfl (lv_room (Nat.le_of_ble_eq_true rfl)) dX3_says_229 ⟨Nat.le_of_ble_eq_true rfl, Nat.le_of_ble_eq_true rfl⟩) hG (fun F_2 V_3 ws_ H locs hp hG => ?_)
  obtain ⟨rfl, rfl, rfl⟩ := hp
  have hG : gW X F V (Z) s H locs := hG
  refine lv_iload_n hx hb dX3_says_232 rfl (lv_at hl 0 rfl) ?_
  refine vx_ret ?_
  exact g_iret hx hb hr hlocks hG (⟨rfl, rfl, rfl, rfl⟩) ⟨Nat.le_of_ble_eq_true rfl, Nat.le_of_ble_eq_true rfl⟩ dX3_says_233

set_option maxHeartbeats 4000000 in
theorem metX3_says_t0_2 {l : Launch} {X : gX} {F : gF} {V : gV} {Z : va_W} {rm i9 : Nat} {ra : Nat → Nat} {r : Rm} {sf rj : Nat} (hV : V rj = some (sf, oB 3 [.ref rm])) (hrm : isRmk F ra rm 2 i9 r) : vx_Met l yX3_says (wsW_ yX3_says cX3_says 3 (some FieldType.int) [(0, 233, 234, 21)]) ({ frames := 1, cells := 0, slots := 0, locals := 21 }) (gP X F V (Z) [.ref sf, .int (zI 0)]) (gQi X (fun u G U ws => u = zI (rP r : Int) ∧ F = G ∧ V = U ∧ Z = ws)) (gXc X (fun _ _ _ _ _ => False)) 0 0 (gA X) := by
  refine vx_Met.gH (by decide) (Nat.le_of_ble_eq_true rfl) ?_
  intro p e s m below meth c ls hx hb hr hts hown hlocks hml hin htab hG hl
  have hl : lv_has ls 3 [(0, .ref sf), (1, .int (zI 0))] := hl
  refine lv_iload_n hx hb dX3_says_0 rfl (lv_at hl 1 rfl) ?_
  refine g_tout (tgt := 193) hx hb dX3_says_1 (by decide) (by decide) ?_
  refine lv_aload_n hx hb dX3_says_193 rfl (lv_at hl 0 rfl) ?_
  refine g_get (ci := 3) hx hb hts in_X3 hown hG (hG.vo hV) rfl 0 (Nat.le_of_ble_eq_true rfl) (hts _ q379) (fun _ h9 => h9) rfl dX3_says_194 ?_
  refine lv_ifnonnull (tgt := 204) hx hb dX3_says_197 (by decide) ?_
  refine lv_aload_n hx hb dX3_says_204 rfl (lv_at hl 0 rfl) ?_
  refine g_get (ci := 3) hx hb hts in_X3 hown hG (hG.vo hV) rfl 0 (Nat.le_of_ble_eq_true rfl) (hts _ q379) (fun _ h9 => h9) rfl dX3_says_205 ?_
  refine va_castY hx hb hown (hts _ q643) (hG.1.2.1.1 _ qn3786) (g_recv hG (hG.fz (show F.1 rm = some (oB 16 _) from hrm)) (ci := 16) rfl) dX3_says_208 ?_
  refine g_get (ci := 16) hx hb hts in_X18 hown hG (hG.fz (show F.1 rm = some (oB 16 _) from hrm)) rfl 3 (Nat.le_of_ble_eq_true rfl) (hts _ q2089) (fun _ h9 => h9) rfl dX3_says_211 ?_
  refine lv_istore_n (lv' := [(2, .int (zI (rP r : Int))), (0, .ref sf), (1, .int (zI 0))]) hx hb dX3_says_214 rfl hl (by decide) rfl (fun ls hl => ?_)
  refine lv_aload_n hx hb dX3_says_215 rfl (lv_at hl 1 rfl) ?_
  refine g_get (ci := 3) hx hb hts in_X3 hown hG (hG.vo hV) rfl 0 (Nat.le_of_ble_eq_true rfl) (hts _ q379) (fun _ h9 => h9) rfl dX3_says_216 ?_
  refine lv_ifnull hx hb dX3_says_219 ?_
  refine lv_iconst (v := zI 1) hx hb dX3_says_222 (by decide +kernel) ?_
  refine lv_goto (tgt := 227) hx hb dX3_says_223 (by decide) ?_
  refine lv_bipush (v := zI (-3)) hx hb dX3_says_227 (by decide +kernel) ?_
  refine g_cv (va_runS (As := [.int (zI 1), .int (zI (-3))]) (rest := []) ⟨hx, hb, hml, hown, hts⟩ (metX0_need_t (b := 1) (by decide)) (va_cwS 2 hts (lw_S q616 q521 q87 q522) rfl rfl rfl (by decide +kernel) ⟨Nat.le_of_ble_eq_true rfl, Nat.le_of_ble_eq_true rfl⟩) (g_preS hG) rfl rfl hl.1 rfl (lv_room (Nat.le_of_ble_eq_true rfl)) dX3_says_229 ⟨Nat.le_of_ble_eq_true rfl, Nat.le_of_ble_eq_true rfl⟩) hG (fun F_2 V_3 ws_ H locs hp hG => ?_)
  obtain ⟨rfl, rfl, rfl⟩ := hp
  have hG : gW X F V (Z) s H locs := hG
  refine lv_iload_n hx hb dX3_says_232 rfl (lv_at hl 0 rfl) ?_
  refine vx_ret ?_
  exact g_iret hx hb hr hlocks hG (⟨rfl, rfl, rfl, rfl⟩) ⟨Nat.le_of_ble_eq_true rfl, Nat.le_of_ble_eq_true rfl⟩ dX3_says_233

set_option maxHeartbeats 4000000 in
theorem metX3_says_t0_3 {l : Launch} {X : gX} {F : gF} {V : gV} {Z : va_W} {rm i9 : Nat} {ra : Nat → Nat} {r : Rm} {sf rj : Nat} (hV : V rj = some (sf, oB 3 [.ref rm])) (hrm : isRmk F ra rm 3 i9 r) : vx_Met l yX3_says (wsW_ yX3_says cX3_says 3 (some FieldType.int) [(0, 233, 234, 21)]) ({ frames := 1, cells := 0, slots := 0, locals := 21 }) (gP X F V (Z) [.ref sf, .int (zI 0)]) (gQi X (fun u G U ws => u = zI (rP r : Int) ∧ F = G ∧ V = U ∧ Z = ws)) (gXc X (fun _ _ _ _ _ => False)) 0 0 (gA X) := by
  refine vx_Met.gH (by decide) (Nat.le_of_ble_eq_true rfl) ?_
  intro p e s m below meth c ls hx hb hr hts hown hlocks hml hin htab hG hl
  have hl : lv_has ls 3 [(0, .ref sf), (1, .int (zI 0))] := hl
  refine lv_iload_n hx hb dX3_says_0 rfl (lv_at hl 1 rfl) ?_
  refine g_tout (tgt := 193) hx hb dX3_says_1 (by decide) (by decide) ?_
  refine lv_aload_n hx hb dX3_says_193 rfl (lv_at hl 0 rfl) ?_
  refine g_get (ci := 3) hx hb hts in_X3 hown hG (hG.vo hV) rfl 0 (Nat.le_of_ble_eq_true rfl) (hts _ q379) (fun _ h9 => h9) rfl dX3_says_194 ?_
  refine lv_ifnonnull (tgt := 204) hx hb dX3_says_197 (by decide) ?_
  refine lv_aload_n hx hb dX3_says_204 rfl (lv_at hl 0 rfl) ?_
  refine g_get (ci := 3) hx hb hts in_X3 hown hG (hG.vo hV) rfl 0 (Nat.le_of_ble_eq_true rfl) (hts _ q379) (fun _ h9 => h9) rfl dX3_says_205 ?_
  refine va_castY hx hb hown (hts _ q643) (hG.1.2.1.1 _ qn3787) (g_recv hG (hG.fz (show F.1 rm = some (oB 17 _) from hrm)) (ci := 17) rfl) dX3_says_208 ?_
  refine g_get (ci := 17) hx hb hts in_X19 hown hG (hG.fz (show F.1 rm = some (oB 17 _) from hrm)) rfl 3 (Nat.le_of_ble_eq_true rfl) (hts _ q2089) (fun _ h9 => h9) rfl dX3_says_211 ?_
  refine lv_istore_n (lv' := [(2, .int (zI (rP r : Int))), (0, .ref sf), (1, .int (zI 0))]) hx hb dX3_says_214 rfl hl (by decide) rfl (fun ls hl => ?_)
  refine lv_aload_n hx hb dX3_says_215 rfl (lv_at hl 1 rfl) ?_
  refine g_get (ci := 3) hx hb hts in_X3 hown hG (hG.vo hV) rfl 0 (Nat.le_of_ble_eq_true rfl) (hts _ q379) (fun _ h9 => h9) rfl dX3_says_216 ?_
  refine lv_ifnull hx hb dX3_says_219 ?_
  refine lv_iconst (v := zI 1) hx hb dX3_says_222 (by decide +kernel) ?_
  refine lv_goto (tgt := 227) hx hb dX3_says_223 (by decide) ?_
  refine lv_bipush (v := zI (-3)) hx hb dX3_says_227 (by decide +kernel) ?_
  refine g_cv (va_runS (As := [.int (zI 1), .int (zI (-3))]) (rest := []) ⟨hx, hb, hml, hown, hts⟩ (metX0_need_t (b := 1) (by decide)) (va_cwS 2 hts (lw_S q616 q521 q87 q522) rfl rfl rfl (by decide +kernel) ⟨Nat.le_of_ble_eq_true rfl, Nat.le_of_ble_eq_true rfl⟩) (g_preS hG) rfl rfl hl.1 rfl (lv_room (Nat.le_of_ble_eq_true rfl)) dX3_says_229 ⟨Nat.le_of_ble_eq_true rfl, Nat.le_of_ble_eq_true rfl⟩) hG (fun F_2 V_3 ws_ H locs hp hG => ?_)
  obtain ⟨rfl, rfl, rfl⟩ := hp
  have hG : gW X F V (Z) s H locs := hG
  refine lv_iload_n hx hb dX3_says_232 rfl (lv_at hl 0 rfl) ?_
  refine vx_ret ?_
  exact g_iret hx hb hr hlocks hG (⟨rfl, rfl, rfl, rfl⟩) ⟨Nat.le_of_ble_eq_true rfl, Nat.le_of_ble_eq_true rfl⟩ dX3_says_233

set_option maxHeartbeats 4000000 in
theorem metX3_says_t0_4 {l : Launch} {X : gX} {F : gF} {V : gV} {Z : va_W} {rm i9 : Nat} {ra : Nat → Nat} {r : Rm} {sf rj : Nat} (hV : V rj = some (sf, oB 3 [.ref rm])) (hrm : isRmk F ra rm 4 i9 r) : vx_Met l yX3_says (wsW_ yX3_says cX3_says 3 (some FieldType.int) [(0, 233, 234, 21)]) ({ frames := 1, cells := 0, slots := 0, locals := 21 }) (gP X F V (Z) [.ref sf, .int (zI 0)]) (gQi X (fun u G U ws => u = zI (rP r : Int) ∧ F = G ∧ V = U ∧ Z = ws)) (gXc X (fun _ _ _ _ _ => False)) 0 0 (gA X) := by
  refine vx_Met.gH (by decide) (Nat.le_of_ble_eq_true rfl) ?_
  intro p e s m below meth c ls hx hb hr hts hown hlocks hml hin htab hG hl
  have hl : lv_has ls 3 [(0, .ref sf), (1, .int (zI 0))] := hl
  refine lv_iload_n hx hb dX3_says_0 rfl (lv_at hl 1 rfl) ?_
  refine g_tout (tgt := 193) hx hb dX3_says_1 (by decide) (by decide) ?_
  refine lv_aload_n hx hb dX3_says_193 rfl (lv_at hl 0 rfl) ?_
  refine g_get (ci := 3) hx hb hts in_X3 hown hG (hG.vo hV) rfl 0 (Nat.le_of_ble_eq_true rfl) (hts _ q379) (fun _ h9 => h9) rfl dX3_says_194 ?_
  refine lv_ifnonnull (tgt := 204) hx hb dX3_says_197 (by decide) ?_
  refine lv_aload_n hx hb dX3_says_204 rfl (lv_at hl 0 rfl) ?_
  refine g_get (ci := 3) hx hb hts in_X3 hown hG (hG.vo hV) rfl 0 (Nat.le_of_ble_eq_true rfl) (hts _ q379) (fun _ h9 => h9) rfl dX3_says_205 ?_
  refine va_castY hx hb hown (hts _ q643) (hG.1.2.1.1 _ qn3788) (g_recv hG (hG.fz (show F.1 rm = some (oB 18 _) from hrm)) (ci := 18) rfl) dX3_says_208 ?_
  refine g_get (ci := 18) hx hb hts in_X20 hown hG (hG.fz (show F.1 rm = some (oB 18 _) from hrm)) rfl 3 (Nat.le_of_ble_eq_true rfl) (hts _ q2089) (fun _ h9 => h9) rfl dX3_says_211 ?_
  refine lv_istore_n (lv' := [(2, .int (zI (rP r : Int))), (0, .ref sf), (1, .int (zI 0))]) hx hb dX3_says_214 rfl hl (by decide) rfl (fun ls hl => ?_)
  refine lv_aload_n hx hb dX3_says_215 rfl (lv_at hl 1 rfl) ?_
  refine g_get (ci := 3) hx hb hts in_X3 hown hG (hG.vo hV) rfl 0 (Nat.le_of_ble_eq_true rfl) (hts _ q379) (fun _ h9 => h9) rfl dX3_says_216 ?_
  refine lv_ifnull hx hb dX3_says_219 ?_
  refine lv_iconst (v := zI 1) hx hb dX3_says_222 (by decide +kernel) ?_
  refine lv_goto (tgt := 227) hx hb dX3_says_223 (by decide) ?_
  refine lv_bipush (v := zI (-3)) hx hb dX3_says_227 (by decide +kernel) ?_
  refine g_cv (va_runS (As := [.int (zI 1), .int (zI (-3))]) (rest := []) ⟨hx, hb, hml, hown, hts⟩ (metX0_need_t (b := 1) (by decide)) (va_cwS 2 hts (lw_S q616 q521 q87 q522) rfl rfl rfl (by decide +kernel) ⟨Nat.le_of_ble_eq_true rfl, Nat.le_of_ble_eq_true rfl⟩) (g_preS hG) rfl rfl hl.1 rfl (lv_room (Nat.le_of_ble_eq_true rfl)) dX3_says_229 ⟨Nat.le_of_ble_eq_true rfl, Nat.le_of_ble_eq_true rfl⟩) hG (fun F_2 V_3 ws_ H locs hp hG => ?_)
  obtain ⟨rfl, rfl, rfl⟩ := hp
  have hG : gW X F V (Z) s H locs := hG
  refine lv_iload_n hx hb dX3_says_232 rfl (lv_at hl 0 rfl) ?_
  refine vx_ret ?_
  exact g_iret hx hb hr hlocks hG (⟨rfl, rfl, rfl, rfl⟩) ⟨Nat.le_of_ble_eq_true rfl, Nat.le_of_ble_eq_true rfl⟩ dX3_says_233

set_option maxHeartbeats 4000000 in
theorem metX3_says_t0_5 {l : Launch} {X : gX} {F : gF} {V : gV} {Z : va_W} {rm i9 : Nat} {ra : Nat → Nat} {r : Rm} {sf rj : Nat} (hV : V rj = some (sf, oB 3 [.ref rm])) (hrm : isRmk F ra rm 5 i9 r) : vx_Met l yX3_says (wsW_ yX3_says cX3_says 3 (some FieldType.int) [(0, 233, 234, 21)]) ({ frames := 1, cells := 0, slots := 0, locals := 21 }) (gP X F V (Z) [.ref sf, .int (zI 0)]) (gQi X (fun u G U ws => u = zI (rP r : Int) ∧ F = G ∧ V = U ∧ Z = ws)) (gXc X (fun _ _ _ _ _ => False)) 0 0 (gA X) := by
  refine vx_Met.gH (by decide) (Nat.le_of_ble_eq_true rfl) ?_
  intro p e s m below meth c ls hx hb hr hts hown hlocks hml hin htab hG hl
  have hl : lv_has ls 3 [(0, .ref sf), (1, .int (zI 0))] := hl
  refine lv_iload_n hx hb dX3_says_0 rfl (lv_at hl 1 rfl) ?_
  refine g_tout (tgt := 193) hx hb dX3_says_1 (by decide) (by decide) ?_
  refine lv_aload_n hx hb dX3_says_193 rfl (lv_at hl 0 rfl) ?_
  refine g_get (ci := 3) hx hb hts in_X3 hown hG (hG.vo hV) rfl 0 (Nat.le_of_ble_eq_true rfl) (hts _ q379) (fun _ h9 => h9) rfl dX3_says_194 ?_
  refine lv_ifnonnull (tgt := 204) hx hb dX3_says_197 (by decide) ?_
  refine lv_aload_n hx hb dX3_says_204 rfl (lv_at hl 0 rfl) ?_
  refine g_get (ci := 3) hx hb hts in_X3 hown hG (hG.vo hV) rfl 0 (Nat.le_of_ble_eq_true rfl) (hts _ q379) (fun _ h9 => h9) rfl dX3_says_205 ?_
  refine va_castY hx hb hown (hts _ q643) (hG.1.2.1.1 _ qn3791) (g_recv hG (hG.fz (show F.1 rm = some (oB 19 _) from hrm)) (ci := 19) rfl) dX3_says_208 ?_
  refine g_get (ci := 19) hx hb hts in_X21 hown hG (hG.fz (show F.1 rm = some (oB 19 _) from hrm)) rfl 3 (Nat.le_of_ble_eq_true rfl) (hts _ q2089) (fun _ h9 => h9) rfl dX3_says_211 ?_
  refine lv_istore_n (lv' := [(2, .int (zI (rP r : Int))), (0, .ref sf), (1, .int (zI 0))]) hx hb dX3_says_214 rfl hl (by decide) rfl (fun ls hl => ?_)
  refine lv_aload_n hx hb dX3_says_215 rfl (lv_at hl 1 rfl) ?_
  refine g_get (ci := 3) hx hb hts in_X3 hown hG (hG.vo hV) rfl 0 (Nat.le_of_ble_eq_true rfl) (hts _ q379) (fun _ h9 => h9) rfl dX3_says_216 ?_
  refine lv_ifnull hx hb dX3_says_219 ?_
  refine lv_iconst (v := zI 1) hx hb dX3_says_222 (by decide +kernel) ?_
  refine lv_goto (tgt := 227) hx hb dX3_says_223 (by decide) ?_
  refine lv_bipush (v := zI (-3)) hx hb dX3_says_227 (by decide +kernel) ?_
  refine g_cv (va_runS (As := [.int (zI 1), .int (zI (-3))]) (rest := []) ⟨hx, hb, hml, hown, hts⟩ (metX0_need_t (b := 1) (by decide)) (va_cwS 2 hts (lw_S q616 q521 q87 q522) rfl rfl rfl (by decide +kernel) ⟨Nat.le_of_ble_eq_true rfl, Nat.le_of_ble_eq_true rfl⟩) (g_preS hG) rfl rfl hl.1 rfl (lv_room (Nat.le_of_ble_eq_true rfl)) dX3_says_229 ⟨Nat.le_of_ble_eq_true rfl, Nat.le_of_ble_eq_true rfl⟩) hG (fun F_2 V_3 ws_ H locs hp hG => ?_)
  obtain ⟨rfl, rfl, rfl⟩ := hp
  have hG : gW X F V (Z) s H locs := hG
  refine lv_iload_n hx hb dX3_says_232 rfl (lv_at hl 0 rfl) ?_
  refine vx_ret ?_
  exact g_iret hx hb hr hlocks hG (⟨rfl, rfl, rfl, rfl⟩) ⟨Nat.le_of_ble_eq_true rfl, Nat.le_of_ble_eq_true rfl⟩ dX3_says_233

set_option maxHeartbeats 4000000 in
theorem metX3_says_t0_6 {l : Launch} {X : gX} {F : gF} {V : gV} {Z : va_W} {rm i9 : Nat} {ra : Nat → Nat} {r : Rm} {sf rj : Nat} (hV : V rj = some (sf, oB 3 [.ref rm])) (hrm : isRmk F ra rm 6 i9 r) : vx_Met l yX3_says (wsW_ yX3_says cX3_says 3 (some FieldType.int) [(0, 233, 234, 21)]) ({ frames := 1, cells := 0, slots := 0, locals := 21 }) (gP X F V (Z) [.ref sf, .int (zI 0)]) (gQi X (fun u G U ws => u = zI (rP r : Int) ∧ F = G ∧ V = U ∧ Z = ws)) (gXc X (fun _ _ _ _ _ => False)) 0 0 (gA X) := by
  refine vx_Met.gH (by decide) (Nat.le_of_ble_eq_true rfl) ?_
  intro p e s m below meth c ls hx hb hr hts hown hlocks hml hin htab hG hl
  have hl : lv_has ls 3 [(0, .ref sf), (1, .int (zI 0))] := hl
  refine lv_iload_n hx hb dX3_says_0 rfl (lv_at hl 1 rfl) ?_
  refine g_tout (tgt := 193) hx hb dX3_says_1 (by decide) (by decide) ?_
  refine lv_aload_n hx hb dX3_says_193 rfl (lv_at hl 0 rfl) ?_
  refine g_get (ci := 3) hx hb hts in_X3 hown hG (hG.vo hV) rfl 0 (Nat.le_of_ble_eq_true rfl) (hts _ q379) (fun _ h9 => h9) rfl dX3_says_194 ?_
  refine lv_ifnonnull (tgt := 204) hx hb dX3_says_197 (by decide) ?_
  refine lv_aload_n hx hb dX3_says_204 rfl (lv_at hl 0 rfl) ?_
  refine g_get (ci := 3) hx hb hts in_X3 hown hG (hG.vo hV) rfl 0 (Nat.le_of_ble_eq_true rfl) (hts _ q379) (fun _ h9 => h9) rfl dX3_says_205 ?_
  refine va_castY hx hb hown (hts _ q643) (hG.1.2.1.1 _ qn3790) (g_recv hG (hG.fz (show F.1 rm = some (oB 20 _) from hrm)) (ci := 20) rfl) dX3_says_208 ?_
  refine g_get (ci := 20) hx hb hts in_X22 hown hG (hG.fz (show F.1 rm = some (oB 20 _) from hrm)) rfl 3 (Nat.le_of_ble_eq_true rfl) (hts _ q2089) (fun _ h9 => h9) rfl dX3_says_211 ?_
  refine lv_istore_n (lv' := [(2, .int (zI (rP r : Int))), (0, .ref sf), (1, .int (zI 0))]) hx hb dX3_says_214 rfl hl (by decide) rfl (fun ls hl => ?_)
  refine lv_aload_n hx hb dX3_says_215 rfl (lv_at hl 1 rfl) ?_
  refine g_get (ci := 3) hx hb hts in_X3 hown hG (hG.vo hV) rfl 0 (Nat.le_of_ble_eq_true rfl) (hts _ q379) (fun _ h9 => h9) rfl dX3_says_216 ?_
  refine lv_ifnull hx hb dX3_says_219 ?_
  refine lv_iconst (v := zI 1) hx hb dX3_says_222 (by decide +kernel) ?_
  refine lv_goto (tgt := 227) hx hb dX3_says_223 (by decide) ?_
  refine lv_bipush (v := zI (-3)) hx hb dX3_says_227 (by decide +kernel) ?_
  refine g_cv (va_runS (As := [.int (zI 1), .int (zI (-3))]) (rest := []) ⟨hx, hb, hml, hown, hts⟩ (metX0_need_t (b := 1) (by decide)) (va_cwS 2 hts (lw_S q616 q521 q87 q522) rfl rfl rfl (by decide +kernel) ⟨Nat.le_of_ble_eq_true rfl, Nat.le_of_ble_eq_true rfl⟩) (g_preS hG) rfl rfl hl.1 rfl (lv_room (Nat.le_of_ble_eq_true rfl)) dX3_says_229 ⟨Nat.le_of_ble_eq_true rfl, Nat.le_of_ble_eq_true rfl⟩) hG (fun F_2 V_3 ws_ H locs hp hG => ?_)
  obtain ⟨rfl, rfl, rfl⟩ := hp
  have hG : gW X F V (Z) s H locs := hG
  refine lv_iload_n hx hb dX3_says_232 rfl (lv_at hl 0 rfl) ?_
  refine vx_ret ?_
  exact g_iret hx hb hr hlocks hG (⟨rfl, rfl, rfl, rfl⟩) ⟨Nat.le_of_ble_eq_true rfl, Nat.le_of_ble_eq_true rfl⟩ dX3_says_233

set_option maxHeartbeats 4000000 in
theorem metX3_says_n1 {l : Launch} {X : gX} {F : gF} {V : gV} {Z : va_W} {sf rj : Nat} (hV : V rj = some (sf, oB 3 [.null])) : vx_Met l yX3_says (wsW_ yX3_says cX3_says 3 (some FieldType.int) [(0, 233, 234, 21)]) ({ frames := 5, cells := 1, slots := 7, locals := 110 }) (gP X F V (Z) [.ref sf, .int (zI 1)]) (gQi X (fun _ _ _ _ => False)) (gXc X (fun E q G U ws => E = "LineRemarks$Refused" ∧ gLe F G ∧ isRef G q 3 ∧ V = U ∧ Z = ws)) 1 7 (gA X) := by
  refine vx_Met.gH (by decide) (Nat.le_of_ble_eq_true rfl) ?_
  intro p e s m below meth c ls hx hb hr hts hown hlocks hml hin htab hG hl
  have hl : lv_has ls 3 [(0, .ref sf), (1, .int (zI 1))] := hl
  refine lv_iload_n hx hb dX3_says_0 rfl (lv_at hl 1 rfl) ?_
  refine g_tin hx hb 1 (off := 39) (tgt := 40) dX3_says_1 rfl (by decide) rfl (by decide) ?_
  refine lv_aload_n hx hb dX3_says_40 rfl (lv_at hl 0 rfl) ?_
  refine g_get (ci := 3) hx hb hts in_X3 hown hG (hG.vo hV) rfl 0 (Nat.le_of_ble_eq_true rfl) (hts _ q379) (fun _ h9 => h9) rfl dX3_says_41 ?_
  refine lv_ifnonnullN hx hb dX3_says_44 ?_
  refine lv_iconst (v := zI (-1)) hx hb dX3_says_47 (by decide +kernel) ?_
  refine lv_goto (tgt := 61) hx hb dX3_says_48 (by decide) ?_
  refine lv_istore_n (lv' := [(2, .int (zI (-1))), (0, .ref sf), (1, .int (zI 1))]) hx hb dX3_says_61 rfl hl (by decide) rfl (fun ls hl => ?_)
  refine lv_goto (tgt := 215) hx hb dX3_says_62 (by decide) ?_
  refine lv_aload_n hx hb dX3_says_215 rfl (lv_at hl 1 rfl) ?_
  refine g_get (ci := 3) hx hb hts in_X3 hown hG (hG.vo hV) rfl 0 (Nat.le_of_ble_eq_true rfl) (hts _ q379) (fun _ h9 => h9) rfl dX3_says_216 ?_
  refine lv_ifnullN (tgt := 226) hx hb dX3_says_219 (by decide) ?_
  refine lv_iconst (v := zI 0) hx hb dX3_says_226 (by decide +kernel) ?_
  refine lv_bipush (v := zI (-3)) hx hb dX3_says_227 (by decide +kernel) ?_
  refine g_xv (vx_runS (As := [.int (zI 0), .int (zI (-3))]) (rest := []) ⟨hx, hb, hml, hown, hts⟩ (metX0_need_f (k := 3)) (va_cwS 2 hts (lw_S q616 q521 q87 q522) rfl rfl rfl (by decide +kernel) ⟨Nat.le_of_ble_eq_true rfl, Nat.le_of_ble_eq_true rfl⟩) (g_preS hG) rfl rfl hl.1 rfl (lv_room (Nat.le_of_ble_eq_true rfl)) dX3_says_229 ⟨Nat.le_of_ble_eq_true rfl, Nat.le_of_ble_eq_true rfl⟩) hG (fun E9 ce9 q9 Fx_4 Vx_5 ws_ H locs hpx hG hce => ?_) (fun F_2 V_3 ws_ H locs hp hG => ?_)
  · obtain ⟨rfl, hle_Fx_4, hq9, rfl, rfl⟩ := hpx
    have hG : gW X Fx_4 V (Z) s H locs := hG
    exact g_out hown hlocks (by rw [htab]; exact (List.forall_mem_cons.mpr ⟨Or.inr ⟨by decide, "java/lang/ClassCastException", hts _ q601, (gW_xt hG).2.2.2.1 _ qc69⟩, (fun z9 hz9 => absurd hz9 List.not_mem_nil)⟩)) hG hce (⟨rfl, hle_Fx_4, hq9, rfl, rfl⟩) ⟨Nat.le_of_ble_eq_true rfl, Nat.le_of_ble_eq_true rfl⟩
  exact hp.elim

set_option maxHeartbeats 4000000 in
theorem metX3_says_f1 {l : Launch} {X : gX} {F : gF} {V : gV} {Z : va_W} {h0 : Nat} {sf rj : Nat} (hV : V rj = some (sf, oB 3 [.ref h0])) (hnc : ncH F h0 "LineRemarks$Point") (hst : l.stackTraces = false) : vx_Met l yX3_says (wsW_ yX3_says cX3_says 3 (some FieldType.int) [(0, 233, 234, 21)]) ({ frames := 8, cells := 4, slots := 917, locals := 10256 }) (gP X F V (Z) [.ref sf, .int (zI 1)]) (gQi X (fun _ _ _ _ => False)) (gXc X (fun E q G U ws => E = "LineRemarks$Refused" ∧ gLe F G ∧ isRef G q 2 ∧ V = U ∧ Z = ws)) 4 917 (gA X) := by
  refine vx_Met.gH (by decide) (Nat.le_of_ble_eq_true rfl) ?_
  intro p e s m below meth c ls hx hb hr hts hown hlocks hml hin htab hG hl
  have hl : lv_has ls 3 [(0, .ref sf), (1, .int (zI 1))] := hl
  refine lv_iload_n hx hb dX3_says_0 rfl (lv_at hl 1 rfl) ?_
  refine g_tin hx hb 1 (off := 39) (tgt := 40) dX3_says_1 rfl (by decide) rfl (by decide) ?_
  refine lv_aload_n hx hb dX3_says_40 rfl (lv_at hl 0 rfl) ?_
  refine g_get (ci := 3) hx hb hts in_X3 hown hG (hG.vo hV) rfl 0 (Nat.le_of_ble_eq_true rfl) (hts _ q379) (fun _ h9 => h9) rfl dX3_says_41 ?_
  refine lv_ifnonnull (tgt := 51) hx hb dX3_says_44 (by decide) ?_
  refine lv_aload_n hx hb dX3_says_51 rfl (lv_at hl 0 rfl) ?_
  refine g_get (ci := 3) hx hb hts in_X3 hown hG (hG.vo hV) rfl 0 (Nat.le_of_ble_eq_true rfl) (hts _ q379) (fun _ h9 => h9) rfl dX3_says_52 ?_
  obtain ⟨ci9, fs9, c9, hh1, hh2, hh3, hh4, hh5⟩ := hnc
  refine g_castNo hx hb hown (hts _ q723) ((gW_xt hG).2.2.2.1 _ hh3) (g_recv hG (hG.fz hh1) hh2) (gW_xt hG).2.2.2.2 ⟨hh4, hh5⟩ ⟨by decide +kernel, by decide⟩ dX3_says_55 (fun tx htx => g_cce hx hst hts hG (hml.trans hl.1.symm).symm htx (Nat.le_of_ble_eq_true rfl) (Nat.le_of_ble_eq_true rfl) ⟨Nat.le_of_ble_eq_true rfl, Nat.le_of_ble_eq_true rfl⟩ hlocks (fun H q9 ce9 hG hce => ?_))
  refine g_catch (name := "java/lang/ClassCastException") hown htab [] ⟨0, 233, 234, 21⟩ [] rfl (fun z9 hz9 => absurd hz9 List.not_mem_nil) (by decide) (by decide) (hts _ q601) (hG.1.2.1.1 _ qn613) hce ?_
  refine lv_astore_n (lv' := [(2, .ref q9), (0, .ref sf), (1, .int (zI 1))]) hx hb dX3_says_234 rfl hl (by decide) rfl (fun ls hl => ?_)
  refine g_new (ci := 4) hx hb hts in_X5 tyX5 tyX5_ok hown (hts _ q617) (hts _ q497) (hts _ q109) hG rfl (fs := [.null, .null, .null, .null, .null, .int (zI 0), .int (zI 0)]) rfl ⟨Nat.le_of_ble_eq_true rfl, Nat.le_of_ble_eq_true rfl⟩ dX3_says_235 (fun q9 H (hG : gW X F V ((q9, oB 4 [.null, .null, .null, .null, .null, .int (zI 0), .int (zI 0)]) :: Z) s H _) => ?_)
  refine lv_dup hx hb dX3_says_238 rfl ?_
  refine lv_bipush (v := zI (-2)) hx hb dX3_says_239 (by decide +kernel) ?_
  refine g_cv (va_runI (As := [.int (zI (-2))]) (rest := [.ref q9]) ⟨hx, hb, hml, hown, hts⟩ (metX5_init) (cwI 1 hts (lw_meth q507) rfl rfl rfl (hts _ q109) (hts _ q618) (hts _ q506) rfl (by decide +kernel) ⟨Nat.le_of_ble_eq_true rfl, Nat.le_of_ble_eq_true rfl⟩) (g_preS hG) rfl rfl hl.1 rfl (lv_room (Nat.le_of_ble_eq_true rfl)) dX3_says_241 ⟨Nat.le_of_ble_eq_true rfl, Nat.le_of_ble_eq_true rfl⟩) hG (fun F_2 V_3 ws_ H locs hp hG => ?_)
  obtain ⟨rfl, rfl, rfl⟩ := hp
  have hG : gW X F V ((q9, oB 4 [.null, .null, .null, .null, .null, .int (zI 0), .int (zI (-2))]) :: Z) s H locs := hG
  obtain ⟨G9, hle_G9, hq9, hG⟩ := hG.freeze
  have hG : gW X G9 V (Z) s _ _ := hG
  refine vx_athrow hx hb dX3_says_244 ?_
  have hq9 : isRef G9 q9 2 := hq9
  obtain ⟨ce9, hce⟩ := ex_cell hG hq9 (k := (RX5, TX5, 7)) rfl
  exact g_out hown hlocks (by rw [htab]; exact (List.forall_mem_cons.mpr ⟨Or.inl (by decide), (fun z9 hz9 => absurd hz9 List.not_mem_nil)⟩)) hG hce (⟨rfl, hle_G9, hq9, rfl, rfl⟩) ⟨Nat.le_of_ble_eq_true rfl, Nat.le_of_ble_eq_true rfl⟩

set_option maxHeartbeats 4000000 in
theorem metX3_says_t1_1 {l : Launch} {X : gX} {F : gF} {V : gV} {Z : va_W} {rm i9 : Nat} {ra : Nat → Nat} {r : Rm} {sf rj : Nat} (hV : V rj = some (sf, oB 3 [.ref rm])) (hrm : isRmk F ra rm 1 i9 r) : vx_Met l yX3_says (wsW_ yX3_says cX3_says 3 (some FieldType.int) [(0, 233, 234, 21)]) ({ frames := 1, cells := 0, slots := 0, locals := 21 }) (gP X F V (Z) [.ref sf, .int (zI 1)]) (gQi X (fun u G U ws => u = zI (rBy r : Int) ∧ F = G ∧ V = U ∧ Z = ws)) (gXc X (fun _ _ _ _ _ => False)) 0 0 (gA X) := by
  refine vx_Met.gH (by decide) (Nat.le_of_ble_eq_true rfl) ?_
  intro p e s m below meth c ls hx hb hr hts hown hlocks hml hin htab hG hl
  have hl : lv_has ls 3 [(0, .ref sf), (1, .int (zI 1))] := hl
  refine lv_iload_n hx hb dX3_says_0 rfl (lv_at hl 1 rfl) ?_
  refine g_tin hx hb 1 (off := 39) (tgt := 40) dX3_says_1 rfl (by decide) rfl (by decide) ?_
  refine lv_aload_n hx hb dX3_says_40 rfl (lv_at hl 0 rfl) ?_
  refine g_get (ci := 3) hx hb hts in_X3 hown hG (hG.vo hV) rfl 0 (Nat.le_of_ble_eq_true rfl) (hts _ q379) (fun _ h9 => h9) rfl dX3_says_41 ?_
  refine lv_ifnonnull (tgt := 51) hx hb dX3_says_44 (by decide) ?_
  refine lv_aload_n hx hb dX3_says_51 rfl (lv_at hl 0 rfl) ?_
  refine g_get (ci := 3) hx hb hts in_X3 hown hG (hG.vo hV) rfl 0 (Nat.le_of_ble_eq_true rfl) (hts _ q379) (fun _ h9 => h9) rfl dX3_says_52 ?_
  refine va_castE hx hb hown (hts _ q723) (g_recv hG (hG.fz (show F.1 rm = some (oB 15 _) from hrm)) (ci := 15) rfl) dX3_says_55 ?_
  refine g_get (ci := 15) hx hb hts in_X17 hown hG (hG.fz (show F.1 rm = some (oB 15 _) from hrm)) rfl 1 (Nat.le_of_ble_eq_true rfl) (hts _ q2076) (u_same (hts _ q2073)) rfl dX3_says_58 ?_
  refine lv_istore_n (lv' := [(2, .int (zI (rBy r : Int))), (0, .ref sf), (1, .int (zI 1))]) hx hb dX3_says_61 rfl hl (by decide) rfl (fun ls hl => ?_)
  refine lv_goto (tgt := 215) hx hb dX3_says_62 (by decide) ?_
  refine lv_aload_n hx hb dX3_says_215 rfl (lv_at hl 1 rfl) ?_
  refine g_get (ci := 3) hx hb hts in_X3 hown hG (hG.vo hV) rfl 0 (Nat.le_of_ble_eq_true rfl) (hts _ q379) (fun _ h9 => h9) rfl dX3_says_216 ?_
  refine lv_ifnull hx hb dX3_says_219 ?_
  refine lv_iconst (v := zI 1) hx hb dX3_says_222 (by decide +kernel) ?_
  refine lv_goto (tgt := 227) hx hb dX3_says_223 (by decide) ?_
  refine lv_bipush (v := zI (-3)) hx hb dX3_says_227 (by decide +kernel) ?_
  refine g_cv (va_runS (As := [.int (zI 1), .int (zI (-3))]) (rest := []) ⟨hx, hb, hml, hown, hts⟩ (metX0_need_t (b := 1) (by decide)) (va_cwS 2 hts (lw_S q616 q521 q87 q522) rfl rfl rfl (by decide +kernel) ⟨Nat.le_of_ble_eq_true rfl, Nat.le_of_ble_eq_true rfl⟩) (g_preS hG) rfl rfl hl.1 rfl (lv_room (Nat.le_of_ble_eq_true rfl)) dX3_says_229 ⟨Nat.le_of_ble_eq_true rfl, Nat.le_of_ble_eq_true rfl⟩) hG (fun F_2 V_3 ws_ H locs hp hG => ?_)
  obtain ⟨rfl, rfl, rfl⟩ := hp
  have hG : gW X F V (Z) s H locs := hG
  refine lv_iload_n hx hb dX3_says_232 rfl (lv_at hl 0 rfl) ?_
  refine vx_ret ?_
  exact g_iret hx hb hr hlocks hG (⟨rfl, rfl, rfl, rfl⟩) ⟨Nat.le_of_ble_eq_true rfl, Nat.le_of_ble_eq_true rfl⟩ dX3_says_233

set_option maxHeartbeats 4000000 in
theorem metX3_says_t1_3 {l : Launch} {X : gX} {F : gF} {V : gV} {Z : va_W} {rm i9 : Nat} {ra : Nat → Nat} {r : Rm} {sf rj : Nat} (hV : V rj = some (sf, oB 3 [.ref rm])) (hrm : isRmk F ra rm 3 i9 r) : vx_Met l yX3_says (wsW_ yX3_says cX3_says 3 (some FieldType.int) [(0, 233, 234, 21)]) ({ frames := 1, cells := 0, slots := 0, locals := 21 }) (gP X F V (Z) [.ref sf, .int (zI 1)]) (gQi X (fun u G U ws => u = zI (rBy r : Int) ∧ F = G ∧ V = U ∧ Z = ws)) (gXc X (fun _ _ _ _ _ => False)) 0 0 (gA X) := by
  refine vx_Met.gH (by decide) (Nat.le_of_ble_eq_true rfl) ?_
  intro p e s m below meth c ls hx hb hr hts hown hlocks hml hin htab hG hl
  have hl : lv_has ls 3 [(0, .ref sf), (1, .int (zI 1))] := hl
  refine lv_iload_n hx hb dX3_says_0 rfl (lv_at hl 1 rfl) ?_
  refine g_tin hx hb 1 (off := 39) (tgt := 40) dX3_says_1 rfl (by decide) rfl (by decide) ?_
  refine lv_aload_n hx hb dX3_says_40 rfl (lv_at hl 0 rfl) ?_
  refine g_get (ci := 3) hx hb hts in_X3 hown hG (hG.vo hV) rfl 0 (Nat.le_of_ble_eq_true rfl) (hts _ q379) (fun _ h9 => h9) rfl dX3_says_41 ?_
  refine lv_ifnonnull (tgt := 51) hx hb dX3_says_44 (by decide) ?_
  refine lv_aload_n hx hb dX3_says_51 rfl (lv_at hl 0 rfl) ?_
  refine g_get (ci := 3) hx hb hts in_X3 hown hG (hG.vo hV) rfl 0 (Nat.le_of_ble_eq_true rfl) (hts _ q379) (fun _ h9 => h9) rfl dX3_says_52 ?_
  refine va_castY hx hb hown (hts _ q723) (hG.1.2.1.1 _ qn3792) (g_recv hG (hG.fz (show F.1 rm = some (oB 17 _) from hrm)) (ci := 17) rfl) dX3_says_55 ?_
  refine g_get (ci := 17) hx hb hts in_X19 hown hG (hG.fz (show F.1 rm = some (oB 17 _) from hrm)) rfl 1 (Nat.le_of_ble_eq_true rfl) (hts _ q2076) (u_same (hts _ q2073)) rfl dX3_says_58 ?_
  refine lv_istore_n (lv' := [(2, .int (zI (rBy r : Int))), (0, .ref sf), (1, .int (zI 1))]) hx hb dX3_says_61 rfl hl (by decide) rfl (fun ls hl => ?_)
  refine lv_goto (tgt := 215) hx hb dX3_says_62 (by decide) ?_
  refine lv_aload_n hx hb dX3_says_215 rfl (lv_at hl 1 rfl) ?_
  refine g_get (ci := 3) hx hb hts in_X3 hown hG (hG.vo hV) rfl 0 (Nat.le_of_ble_eq_true rfl) (hts _ q379) (fun _ h9 => h9) rfl dX3_says_216 ?_
  refine lv_ifnull hx hb dX3_says_219 ?_
  refine lv_iconst (v := zI 1) hx hb dX3_says_222 (by decide +kernel) ?_
  refine lv_goto (tgt := 227) hx hb dX3_says_223 (by decide) ?_
  refine lv_bipush (v := zI (-3)) hx hb dX3_says_227 (by decide +kernel) ?_
  refine g_cv (va_runS (As := [.int (zI 1), .int (zI (-3))]) (rest := []) ⟨hx, hb, hml, hown, hts⟩ (metX0_need_t (b := 1) (by decide)) (va_cwS 2 hts (lw_S q616 q521 q87 q522) rfl rfl rfl (by decide +kernel) ⟨Nat.le_of_ble_eq_true rfl, Nat.le_of_ble_eq_true rfl⟩) (g_preS hG) rfl rfl hl.1 rfl (lv_room (Nat.le_of_ble_eq_true rfl)) dX3_says_229 ⟨Nat.le_of_ble_eq_true rfl, Nat.le_of_ble_eq_true rfl⟩) hG (fun F_2 V_3 ws_ H locs hp hG => ?_)
  obtain ⟨rfl, rfl, rfl⟩ := hp
  have hG : gW X F V (Z) s H locs := hG
  refine lv_iload_n hx hb dX3_says_232 rfl (lv_at hl 0 rfl) ?_
  refine vx_ret ?_
  exact g_iret hx hb hr hlocks hG (⟨rfl, rfl, rfl, rfl⟩) ⟨Nat.le_of_ble_eq_true rfl, Nat.le_of_ble_eq_true rfl⟩ dX3_says_233

set_option maxHeartbeats 4000000 in
theorem metX3_says_t1_6 {l : Launch} {X : gX} {F : gF} {V : gV} {Z : va_W} {rm i9 : Nat} {ra : Nat → Nat} {r : Rm} {sf rj : Nat} (hV : V rj = some (sf, oB 3 [.ref rm])) (hrm : isRmk F ra rm 6 i9 r) : vx_Met l yX3_says (wsW_ yX3_says cX3_says 3 (some FieldType.int) [(0, 233, 234, 21)]) ({ frames := 1, cells := 0, slots := 0, locals := 21 }) (gP X F V (Z) [.ref sf, .int (zI 1)]) (gQi X (fun u G U ws => u = zI (rBy r : Int) ∧ F = G ∧ V = U ∧ Z = ws)) (gXc X (fun _ _ _ _ _ => False)) 0 0 (gA X) := by
  refine vx_Met.gH (by decide) (Nat.le_of_ble_eq_true rfl) ?_
  intro p e s m below meth c ls hx hb hr hts hown hlocks hml hin htab hG hl
  have hl : lv_has ls 3 [(0, .ref sf), (1, .int (zI 1))] := hl
  refine lv_iload_n hx hb dX3_says_0 rfl (lv_at hl 1 rfl) ?_
  refine g_tin hx hb 1 (off := 39) (tgt := 40) dX3_says_1 rfl (by decide) rfl (by decide) ?_
  refine lv_aload_n hx hb dX3_says_40 rfl (lv_at hl 0 rfl) ?_
  refine g_get (ci := 3) hx hb hts in_X3 hown hG (hG.vo hV) rfl 0 (Nat.le_of_ble_eq_true rfl) (hts _ q379) (fun _ h9 => h9) rfl dX3_says_41 ?_
  refine lv_ifnonnull (tgt := 51) hx hb dX3_says_44 (by decide) ?_
  refine lv_aload_n hx hb dX3_says_51 rfl (lv_at hl 0 rfl) ?_
  refine g_get (ci := 3) hx hb hts in_X3 hown hG (hG.vo hV) rfl 0 (Nat.le_of_ble_eq_true rfl) (hts _ q379) (fun _ h9 => h9) rfl dX3_says_52 ?_
  refine va_castY hx hb hown (hts _ q723) (hG.1.2.1.1 _ qn3793) (g_recv hG (hG.fz (show F.1 rm = some (oB 20 _) from hrm)) (ci := 20) rfl) dX3_says_55 ?_
  refine g_get (ci := 20) hx hb hts in_X22 hown hG (hG.fz (show F.1 rm = some (oB 20 _) from hrm)) rfl 1 (Nat.le_of_ble_eq_true rfl) (hts _ q2076) (u_same (hts _ q2073)) rfl dX3_says_58 ?_
  refine lv_istore_n (lv' := [(2, .int (zI (rBy r : Int))), (0, .ref sf), (1, .int (zI 1))]) hx hb dX3_says_61 rfl hl (by decide) rfl (fun ls hl => ?_)
  refine lv_goto (tgt := 215) hx hb dX3_says_62 (by decide) ?_
  refine lv_aload_n hx hb dX3_says_215 rfl (lv_at hl 1 rfl) ?_
  refine g_get (ci := 3) hx hb hts in_X3 hown hG (hG.vo hV) rfl 0 (Nat.le_of_ble_eq_true rfl) (hts _ q379) (fun _ h9 => h9) rfl dX3_says_216 ?_
  refine lv_ifnull hx hb dX3_says_219 ?_
  refine lv_iconst (v := zI 1) hx hb dX3_says_222 (by decide +kernel) ?_
  refine lv_goto (tgt := 227) hx hb dX3_says_223 (by decide) ?_
  refine lv_bipush (v := zI (-3)) hx hb dX3_says_227 (by decide +kernel) ?_
  refine g_cv (va_runS (As := [.int (zI 1), .int (zI (-3))]) (rest := []) ⟨hx, hb, hml, hown, hts⟩ (metX0_need_t (b := 1) (by decide)) (va_cwS 2 hts (lw_S q616 q521 q87 q522) rfl rfl rfl (by decide +kernel) ⟨Nat.le_of_ble_eq_true rfl, Nat.le_of_ble_eq_true rfl⟩) (g_preS hG) rfl rfl hl.1 rfl (lv_room (Nat.le_of_ble_eq_true rfl)) dX3_says_229 ⟨Nat.le_of_ble_eq_true rfl, Nat.le_of_ble_eq_true rfl⟩) hG (fun F_2 V_3 ws_ H locs hp hG => ?_)
  obtain ⟨rfl, rfl, rfl⟩ := hp
  have hG : gW X F V (Z) s H locs := hG
  refine lv_iload_n hx hb dX3_says_232 rfl (lv_at hl 0 rfl) ?_
  refine vx_ret ?_
  exact g_iret hx hb hr hlocks hG (⟨rfl, rfl, rfl, rfl⟩) ⟨Nat.le_of_ble_eq_true rfl, Nat.le_of_ble_eq_true rfl⟩ dX3_says_233

set_option maxHeartbeats 4000000 in
theorem metX3_says_n2 {l : Launch} {X : gX} {F : gF} {V : gV} {Z : va_W} {sf rj : Nat} (hV : V rj = some (sf, oB 3 [.null])) : vx_Met l yX3_says (wsW_ yX3_says cX3_says 3 (some FieldType.int) [(0, 233, 234, 21)]) ({ frames := 5, cells := 1, slots := 7, locals := 110 }) (gP X F V (Z) [.ref sf, .int (zI 2)]) (gQi X (fun _ _ _ _ => False)) (gXc X (fun E q G U ws => E = "LineRemarks$Refused" ∧ gLe F G ∧ isRef G q 3 ∧ V = U ∧ Z = ws)) 1 7 (gA X) := by
  refine vx_Met.gH (by decide) (Nat.le_of_ble_eq_true rfl) ?_
  intro p e s m below meth c ls hx hb hr hts hown hlocks hml hin htab hG hl
  have hl : lv_has ls 3 [(0, .ref sf), (1, .int (zI 2))] := hl
  refine lv_iload_n hx hb dX3_says_0 rfl (lv_at hl 1 rfl) ?_
  refine g_tin hx hb 2 (off := 64) (tgt := 65) dX3_says_1 rfl (by decide) rfl (by decide) ?_
  refine lv_aload_n hx hb dX3_says_65 rfl (lv_at hl 0 rfl) ?_
  refine g_get (ci := 3) hx hb hts in_X3 hown hG (hG.vo hV) rfl 0 (Nat.le_of_ble_eq_true rfl) (hts _ q379) (fun _ h9 => h9) rfl dX3_says_66 ?_
  refine lv_ifnonnullN hx hb dX3_says_69 ?_
  refine lv_iconst (v := zI (-1)) hx hb dX3_says_72 (by decide +kernel) ?_
  refine lv_goto (tgt := 86) hx hb dX3_says_73 (by decide) ?_
  refine lv_istore_n (lv' := [(2, .int (zI (-1))), (0, .ref sf), (1, .int (zI 2))]) hx hb dX3_says_86 rfl hl (by decide) rfl (fun ls hl => ?_)
  refine lv_goto (tgt := 215) hx hb dX3_says_87 (by decide) ?_
  refine lv_aload_n hx hb dX3_says_215 rfl (lv_at hl 1 rfl) ?_
  refine g_get (ci := 3) hx hb hts in_X3 hown hG (hG.vo hV) rfl 0 (Nat.le_of_ble_eq_true rfl) (hts _ q379) (fun _ h9 => h9) rfl dX3_says_216 ?_
  refine lv_ifnullN (tgt := 226) hx hb dX3_says_219 (by decide) ?_
  refine lv_iconst (v := zI 0) hx hb dX3_says_226 (by decide +kernel) ?_
  refine lv_bipush (v := zI (-3)) hx hb dX3_says_227 (by decide +kernel) ?_
  refine g_xv (vx_runS (As := [.int (zI 0), .int (zI (-3))]) (rest := []) ⟨hx, hb, hml, hown, hts⟩ (metX0_need_f (k := 3)) (va_cwS 2 hts (lw_S q616 q521 q87 q522) rfl rfl rfl (by decide +kernel) ⟨Nat.le_of_ble_eq_true rfl, Nat.le_of_ble_eq_true rfl⟩) (g_preS hG) rfl rfl hl.1 rfl (lv_room (Nat.le_of_ble_eq_true rfl)) dX3_says_229 ⟨Nat.le_of_ble_eq_true rfl, Nat.le_of_ble_eq_true rfl⟩) hG (fun E9 ce9 q9 Fx_4 Vx_5 ws_ H locs hpx hG hce => ?_) (fun F_2 V_3 ws_ H locs hp hG => ?_)
  · obtain ⟨rfl, hle_Fx_4, hq9, rfl, rfl⟩ := hpx
    have hG : gW X Fx_4 V (Z) s H locs := hG
    exact g_out hown hlocks (by rw [htab]; exact (List.forall_mem_cons.mpr ⟨Or.inr ⟨by decide, "java/lang/ClassCastException", hts _ q601, (gW_xt hG).2.2.2.1 _ qc69⟩, (fun z9 hz9 => absurd hz9 List.not_mem_nil)⟩)) hG hce (⟨rfl, hle_Fx_4, hq9, rfl, rfl⟩) ⟨Nat.le_of_ble_eq_true rfl, Nat.le_of_ble_eq_true rfl⟩
  exact hp.elim

set_option maxHeartbeats 4000000 in
theorem metX3_says_f2 {l : Launch} {X : gX} {F : gF} {V : gV} {Z : va_W} {h0 : Nat} {sf rj : Nat} (hV : V rj = some (sf, oB 3 [.ref h0])) (hnc : ncH F h0 "LineRemarks$Block") (hst : l.stackTraces = false) : vx_Met l yX3_says (wsW_ yX3_says cX3_says 3 (some FieldType.int) [(0, 233, 234, 21)]) ({ frames := 8, cells := 4, slots := 917, locals := 10256 }) (gP X F V (Z) [.ref sf, .int (zI 2)]) (gQi X (fun _ _ _ _ => False)) (gXc X (fun E q G U ws => E = "LineRemarks$Refused" ∧ gLe F G ∧ isRef G q 2 ∧ V = U ∧ Z = ws)) 4 917 (gA X) := by
  refine vx_Met.gH (by decide) (Nat.le_of_ble_eq_true rfl) ?_
  intro p e s m below meth c ls hx hb hr hts hown hlocks hml hin htab hG hl
  have hl : lv_has ls 3 [(0, .ref sf), (1, .int (zI 2))] := hl
  refine lv_iload_n hx hb dX3_says_0 rfl (lv_at hl 1 rfl) ?_
  refine g_tin hx hb 2 (off := 64) (tgt := 65) dX3_says_1 rfl (by decide) rfl (by decide) ?_
  refine lv_aload_n hx hb dX3_says_65 rfl (lv_at hl 0 rfl) ?_
  refine g_get (ci := 3) hx hb hts in_X3 hown hG (hG.vo hV) rfl 0 (Nat.le_of_ble_eq_true rfl) (hts _ q379) (fun _ h9 => h9) rfl dX3_says_66 ?_
  refine lv_ifnonnull (tgt := 76) hx hb dX3_says_69 (by decide) ?_
  refine lv_aload_n hx hb dX3_says_76 rfl (lv_at hl 0 rfl) ?_
  refine g_get (ci := 3) hx hb hts in_X3 hown hG (hG.vo hV) rfl 0 (Nat.le_of_ble_eq_true rfl) (hts _ q379) (fun _ h9 => h9) rfl dX3_says_77 ?_
  obtain ⟨ci9, fs9, c9, hh1, hh2, hh3, hh4, hh5⟩ := hnc
  refine g_castNo hx hb hown (hts _ q724) ((gW_xt hG).2.2.2.1 _ hh3) (g_recv hG (hG.fz hh1) hh2) (gW_xt hG).2.2.2.2 ⟨hh4, hh5⟩ ⟨by decide +kernel, by decide⟩ dX3_says_80 (fun tx htx => g_cce hx hst hts hG (hml.trans hl.1.symm).symm htx (Nat.le_of_ble_eq_true rfl) (Nat.le_of_ble_eq_true rfl) ⟨Nat.le_of_ble_eq_true rfl, Nat.le_of_ble_eq_true rfl⟩ hlocks (fun H q9 ce9 hG hce => ?_))
  refine g_catch (name := "java/lang/ClassCastException") hown htab [] ⟨0, 233, 234, 21⟩ [] rfl (fun z9 hz9 => absurd hz9 List.not_mem_nil) (by decide) (by decide) (hts _ q601) (hG.1.2.1.1 _ qn613) hce ?_
  refine lv_astore_n (lv' := [(2, .ref q9), (0, .ref sf), (1, .int (zI 2))]) hx hb dX3_says_234 rfl hl (by decide) rfl (fun ls hl => ?_)
  refine g_new (ci := 4) hx hb hts in_X5 tyX5 tyX5_ok hown (hts _ q617) (hts _ q497) (hts _ q109) hG rfl (fs := [.null, .null, .null, .null, .null, .int (zI 0), .int (zI 0)]) rfl ⟨Nat.le_of_ble_eq_true rfl, Nat.le_of_ble_eq_true rfl⟩ dX3_says_235 (fun q9 H (hG : gW X F V ((q9, oB 4 [.null, .null, .null, .null, .null, .int (zI 0), .int (zI 0)]) :: Z) s H _) => ?_)
  refine lv_dup hx hb dX3_says_238 rfl ?_
  refine lv_bipush (v := zI (-2)) hx hb dX3_says_239 (by decide +kernel) ?_
  refine g_cv (va_runI (As := [.int (zI (-2))]) (rest := [.ref q9]) ⟨hx, hb, hml, hown, hts⟩ (metX5_init) (cwI 1 hts (lw_meth q507) rfl rfl rfl (hts _ q109) (hts _ q618) (hts _ q506) rfl (by decide +kernel) ⟨Nat.le_of_ble_eq_true rfl, Nat.le_of_ble_eq_true rfl⟩) (g_preS hG) rfl rfl hl.1 rfl (lv_room (Nat.le_of_ble_eq_true rfl)) dX3_says_241 ⟨Nat.le_of_ble_eq_true rfl, Nat.le_of_ble_eq_true rfl⟩) hG (fun F_2 V_3 ws_ H locs hp hG => ?_)
  obtain ⟨rfl, rfl, rfl⟩ := hp
  have hG : gW X F V ((q9, oB 4 [.null, .null, .null, .null, .null, .int (zI 0), .int (zI (-2))]) :: Z) s H locs := hG
  obtain ⟨G9, hle_G9, hq9, hG⟩ := hG.freeze
  have hG : gW X G9 V (Z) s _ _ := hG
  refine vx_athrow hx hb dX3_says_244 ?_
  have hq9 : isRef G9 q9 2 := hq9
  obtain ⟨ce9, hce⟩ := ex_cell hG hq9 (k := (RX5, TX5, 7)) rfl
  exact g_out hown hlocks (by rw [htab]; exact (List.forall_mem_cons.mpr ⟨Or.inl (by decide), (fun z9 hz9 => absurd hz9 List.not_mem_nil)⟩)) hG hce (⟨rfl, hle_G9, hq9, rfl, rfl⟩) ⟨Nat.le_of_ble_eq_true rfl, Nat.le_of_ble_eq_true rfl⟩

set_option maxHeartbeats 4000000 in
theorem metX3_says_t2_2 {l : Launch} {X : gX} {F : gF} {V : gV} {Z : va_W} {rm i9 : Nat} {ra : Nat → Nat} {r : Rm} {sf rj : Nat} (hV : V rj = some (sf, oB 3 [.ref rm])) (hrm : isRmk F ra rm 2 i9 r) : vx_Met l yX3_says (wsW_ yX3_says cX3_says 3 (some FieldType.int) [(0, 233, 234, 21)]) ({ frames := 1, cells := 0, slots := 0, locals := 21 }) (gP X F V (Z) [.ref sf, .int (zI 2)]) (gQi X (fun u G U ws => u = zI ((rQ r : Int) - (rP r : Int) + 1) ∧ F = G ∧ V = U ∧ Z = ws)) (gXc X (fun _ _ _ _ _ => False)) 0 0 (gA X) := by
  refine vx_Met.gH (by decide) (Nat.le_of_ble_eq_true rfl) ?_
  intro p e s m below meth c ls hx hb hr hts hown hlocks hml hin htab hG hl
  have hl : lv_has ls 3 [(0, .ref sf), (1, .int (zI 2))] := hl
  refine lv_iload_n hx hb dX3_says_0 rfl (lv_at hl 1 rfl) ?_
  refine g_tin hx hb 2 (off := 64) (tgt := 65) dX3_says_1 rfl (by decide) rfl (by decide) ?_
  refine lv_aload_n hx hb dX3_says_65 rfl (lv_at hl 0 rfl) ?_
  refine g_get (ci := 3) hx hb hts in_X3 hown hG (hG.vo hV) rfl 0 (Nat.le_of_ble_eq_true rfl) (hts _ q379) (fun _ h9 => h9) rfl dX3_says_66 ?_
  refine lv_ifnonnull (tgt := 76) hx hb dX3_says_69 (by decide) ?_
  refine lv_aload_n hx hb dX3_says_76 rfl (lv_at hl 0 rfl) ?_
  refine g_get (ci := 3) hx hb hts in_X3 hown hG (hG.vo hV) rfl 0 (Nat.le_of_ble_eq_true rfl) (hts _ q379) (fun _ h9 => h9) rfl dX3_says_77 ?_
  refine va_castE hx hb hown (hts _ q724) (g_recv hG (hG.fz (show F.1 rm = some (oB 16 _) from hrm)) (ci := 16) rfl) dX3_says_80 ?_
  refine g_ci (va_runS (As := [.ref rm]) (rest := []) ⟨hx, hb, hml, hown, hts⟩ (metX3_length_2 hrm) (va_cwS 1 hts (lw_S q725 q726 q101 q727) rfl rfl rfl (by decide +kernel) ⟨Nat.le_of_ble_eq_true rfl, Nat.le_of_ble_eq_true rfl⟩) (g_preS hG) rfl rfl hl.1 rfl (lv_room (Nat.le_of_ble_eq_true rfl)) dX3_says_83 ⟨Nat.le_of_ble_eq_true rfl, Nat.le_of_ble_eq_true rfl⟩) hG (fun r_1 F_2 V_3 ws_ H locs hp hG => ?_)
  obtain ⟨rfl, rfl, rfl, rfl⟩ := hp
  have hG : gW X F V (Z) s H locs := hG
  refine lv_istore_n (lv' := [(2, .int (zI ((rQ r : Int) - (rP r : Int) + 1))), (0, .ref sf), (1, .int (zI 2))]) hx hb dX3_says_86 rfl hl (by decide) rfl (fun ls hl => ?_)
  refine lv_goto (tgt := 215) hx hb dX3_says_87 (by decide) ?_
  refine lv_aload_n hx hb dX3_says_215 rfl (lv_at hl 1 rfl) ?_
  refine g_get (ci := 3) hx hb hts in_X3 hown hG (hG.vo hV) rfl 0 (Nat.le_of_ble_eq_true rfl) (hts _ q379) (fun _ h9 => h9) rfl dX3_says_216 ?_
  refine lv_ifnull hx hb dX3_says_219 ?_
  refine lv_iconst (v := zI 1) hx hb dX3_says_222 (by decide +kernel) ?_
  refine lv_goto (tgt := 227) hx hb dX3_says_223 (by decide) ?_
  refine lv_bipush (v := zI (-3)) hx hb dX3_says_227 (by decide +kernel) ?_
  refine g_cv (va_runS (As := [.int (zI 1), .int (zI (-3))]) (rest := []) ⟨hx, hb, hml, hown, hts⟩ (metX0_need_t (b := 1) (by decide)) (va_cwS 2 hts (lw_S q616 q521 q87 q522) rfl rfl rfl (by decide +kernel) ⟨Nat.le_of_ble_eq_true rfl, Nat.le_of_ble_eq_true rfl⟩) (g_preS hG) rfl rfl hl.1 rfl (lv_room (Nat.le_of_ble_eq_true rfl)) dX3_says_229 ⟨Nat.le_of_ble_eq_true rfl, Nat.le_of_ble_eq_true rfl⟩) hG (fun F_5 V_6 ws_ H locs hp hG => ?_)
  obtain ⟨rfl, rfl, rfl⟩ := hp
  have hG : gW X F V (Z) s H locs := hG
  refine lv_iload_n hx hb dX3_says_232 rfl (lv_at hl 0 rfl) ?_
  refine vx_ret ?_
  exact g_iret hx hb hr hlocks hG (⟨rfl, rfl, rfl, rfl⟩) ⟨Nat.le_of_ble_eq_true rfl, Nat.le_of_ble_eq_true rfl⟩ dX3_says_233

set_option maxHeartbeats 4000000 in
theorem metX3_says_t2_5 {l : Launch} {X : gX} {F : gF} {V : gV} {Z : va_W} {rm i9 : Nat} {ra : Nat → Nat} {r : Rm} {sf rj : Nat} (hV : V rj = some (sf, oB 3 [.ref rm])) (hrm : isRmk F ra rm 5 i9 r) : vx_Met l yX3_says (wsW_ yX3_says cX3_says 3 (some FieldType.int) [(0, 233, 234, 21)]) ({ frames := 1, cells := 0, slots := 0, locals := 21 }) (gP X F V (Z) [.ref sf, .int (zI 2)]) (gQi X (fun u G U ws => u = zI ((rQ r : Int) - (rP r : Int) + 1) ∧ F = G ∧ V = U ∧ Z = ws)) (gXc X (fun _ _ _ _ _ => False)) 0 0 (gA X) := by
  refine vx_Met.gH (by decide) (Nat.le_of_ble_eq_true rfl) ?_
  intro p e s m below meth c ls hx hb hr hts hown hlocks hml hin htab hG hl
  have hl : lv_has ls 3 [(0, .ref sf), (1, .int (zI 2))] := hl
  refine lv_iload_n hx hb dX3_says_0 rfl (lv_at hl 1 rfl) ?_
  refine g_tin hx hb 2 (off := 64) (tgt := 65) dX3_says_1 rfl (by decide) rfl (by decide) ?_
  refine lv_aload_n hx hb dX3_says_65 rfl (lv_at hl 0 rfl) ?_
  refine g_get (ci := 3) hx hb hts in_X3 hown hG (hG.vo hV) rfl 0 (Nat.le_of_ble_eq_true rfl) (hts _ q379) (fun _ h9 => h9) rfl dX3_says_66 ?_
  refine lv_ifnonnull (tgt := 76) hx hb dX3_says_69 (by decide) ?_
  refine lv_aload_n hx hb dX3_says_76 rfl (lv_at hl 0 rfl) ?_
  refine g_get (ci := 3) hx hb hts in_X3 hown hG (hG.vo hV) rfl 0 (Nat.le_of_ble_eq_true rfl) (hts _ q379) (fun _ h9 => h9) rfl dX3_says_77 ?_
  refine va_castY hx hb hown (hts _ q724) (hG.1.2.1.1 _ qn3794) (g_recv hG (hG.fz (show F.1 rm = some (oB 19 _) from hrm)) (ci := 19) rfl) dX3_says_80 ?_
  refine g_ci (va_runS (As := [.ref rm]) (rest := []) ⟨hx, hb, hml, hown, hts⟩ (metX3_length_5 hrm) (va_cwS 1 hts (lw_S q725 q726 q101 q727) rfl rfl rfl (by decide +kernel) ⟨Nat.le_of_ble_eq_true rfl, Nat.le_of_ble_eq_true rfl⟩) (g_preS hG) rfl rfl hl.1 rfl (lv_room (Nat.le_of_ble_eq_true rfl)) dX3_says_83 ⟨Nat.le_of_ble_eq_true rfl, Nat.le_of_ble_eq_true rfl⟩) hG (fun r_1 F_2 V_3 ws_ H locs hp hG => ?_)
  obtain ⟨rfl, rfl, rfl, rfl⟩ := hp
  have hG : gW X F V (Z) s H locs := hG
  refine lv_istore_n (lv' := [(2, .int (zI ((rQ r : Int) - (rP r : Int) + 1))), (0, .ref sf), (1, .int (zI 2))]) hx hb dX3_says_86 rfl hl (by decide) rfl (fun ls hl => ?_)
  refine lv_goto (tgt := 215) hx hb dX3_says_87 (by decide) ?_
  refine lv_aload_n hx hb dX3_says_215 rfl (lv_at hl 1 rfl) ?_
  refine g_get (ci := 3) hx hb hts in_X3 hown hG (hG.vo hV) rfl 0 (Nat.le_of_ble_eq_true rfl) (hts _ q379) (fun _ h9 => h9) rfl dX3_says_216 ?_
  refine lv_ifnull hx hb dX3_says_219 ?_
  refine lv_iconst (v := zI 1) hx hb dX3_says_222 (by decide +kernel) ?_
  refine lv_goto (tgt := 227) hx hb dX3_says_223 (by decide) ?_
  refine lv_bipush (v := zI (-3)) hx hb dX3_says_227 (by decide +kernel) ?_
  refine g_cv (va_runS (As := [.int (zI 1), .int (zI (-3))]) (rest := []) ⟨hx, hb, hml, hown, hts⟩ (metX0_need_t (b := 1) (by decide)) (va_cwS 2 hts (lw_S q616 q521 q87 q522) rfl rfl rfl (by decide +kernel) ⟨Nat.le_of_ble_eq_true rfl, Nat.le_of_ble_eq_true rfl⟩) (g_preS hG) rfl rfl hl.1 rfl (lv_room (Nat.le_of_ble_eq_true rfl)) dX3_says_229 ⟨Nat.le_of_ble_eq_true rfl, Nat.le_of_ble_eq_true rfl⟩) hG (fun F_5 V_6 ws_ H locs hp hG => ?_)
  obtain ⟨rfl, rfl, rfl⟩ := hp
  have hG : gW X F V (Z) s H locs := hG
  refine lv_iload_n hx hb dX3_says_232 rfl (lv_at hl 0 rfl) ?_
  refine vx_ret ?_
  exact g_iret hx hb hr hlocks hG (⟨rfl, rfl, rfl, rfl⟩) ⟨Nat.le_of_ble_eq_true rfl, Nat.le_of_ble_eq_true rfl⟩ dX3_says_233

set_option maxHeartbeats 4000000 in
theorem metX3_says_n3 {l : Launch} {X : gX} {F : gF} {V : gV} {Z : va_W} {sf rj : Nat} (hV : V rj = some (sf, oB 3 [.null])) : vx_Met l yX3_says (wsW_ yX3_says cX3_says 3 (some FieldType.int) [(0, 233, 234, 21)]) ({ frames := 5, cells := 1, slots := 7, locals := 110 }) (gP X F V (Z) [.ref sf, .int (zI 3)]) (gQi X (fun _ _ _ _ => False)) (gXc X (fun E q G U ws => E = "LineRemarks$Refused" ∧ gLe F G ∧ isRef G q 3 ∧ V = U ∧ Z = ws)) 1 7 (gA X) := by
  refine vx_Met.gH (by decide) (Nat.le_of_ble_eq_true rfl) ?_
  intro p e s m below meth c ls hx hb hr hts hown hlocks hml hin htab hG hl
  have hl : lv_has ls 3 [(0, .ref sf), (1, .int (zI 3))] := hl
  refine lv_iload_n hx hb dX3_says_0 rfl (lv_at hl 1 rfl) ?_
  refine g_tin hx hb 3 (off := 89) (tgt := 90) dX3_says_1 rfl (by decide) rfl (by decide) ?_
  refine lv_aload_n hx hb dX3_says_90 rfl (lv_at hl 0 rfl) ?_
  refine g_get (ci := 3) hx hb hts in_X3 hown hG (hG.vo hV) rfl 0 (Nat.le_of_ble_eq_true rfl) (hts _ q379) (fun _ h9 => h9) rfl dX3_says_91 ?_
  refine lv_ifnonnullN hx hb dX3_says_94 ?_
  refine lv_iconst (v := zI (-1)) hx hb dX3_says_97 (by decide +kernel) ?_
  refine lv_goto (tgt := 111) hx hb dX3_says_98 (by decide) ?_
  refine lv_istore_n (lv' := [(2, .int (zI (-1))), (0, .ref sf), (1, .int (zI 3))]) hx hb dX3_says_111 rfl hl (by decide) rfl (fun ls hl => ?_)
  refine lv_goto (tgt := 215) hx hb dX3_says_112 (by decide) ?_
  refine lv_aload_n hx hb dX3_says_215 rfl (lv_at hl 1 rfl) ?_
  refine g_get (ci := 3) hx hb hts in_X3 hown hG (hG.vo hV) rfl 0 (Nat.le_of_ble_eq_true rfl) (hts _ q379) (fun _ h9 => h9) rfl dX3_says_216 ?_
  refine lv_ifnullN (tgt := 226) hx hb dX3_says_219 (by decide) ?_
  refine lv_iconst (v := zI 0) hx hb dX3_says_226 (by decide +kernel) ?_
  refine lv_bipush (v := zI (-3)) hx hb dX3_says_227 (by decide +kernel) ?_
  refine g_xv (vx_runS (As := [.int (zI 0), .int (zI (-3))]) (rest := []) ⟨hx, hb, hml, hown, hts⟩ (metX0_need_f (k := 3)) (va_cwS 2 hts (lw_S q616 q521 q87 q522) rfl rfl rfl (by decide +kernel) ⟨Nat.le_of_ble_eq_true rfl, Nat.le_of_ble_eq_true rfl⟩) (g_preS hG) rfl rfl hl.1 rfl (lv_room (Nat.le_of_ble_eq_true rfl)) dX3_says_229 ⟨Nat.le_of_ble_eq_true rfl, Nat.le_of_ble_eq_true rfl⟩) hG (fun E9 ce9 q9 Fx_4 Vx_5 ws_ H locs hpx hG hce => ?_) (fun F_2 V_3 ws_ H locs hp hG => ?_)
  · obtain ⟨rfl, hle_Fx_4, hq9, rfl, rfl⟩ := hpx
    have hG : gW X Fx_4 V (Z) s H locs := hG
    exact g_out hown hlocks (by rw [htab]; exact (List.forall_mem_cons.mpr ⟨Or.inr ⟨by decide, "java/lang/ClassCastException", hts _ q601, (gW_xt hG).2.2.2.1 _ qc69⟩, (fun z9 hz9 => absurd hz9 List.not_mem_nil)⟩)) hG hce (⟨rfl, hle_Fx_4, hq9, rfl, rfl⟩) ⟨Nat.le_of_ble_eq_true rfl, Nat.le_of_ble_eq_true rfl⟩
  exact hp.elim

set_option maxHeartbeats 4000000 in
theorem metX3_says_f3 {l : Launch} {X : gX} {F : gF} {V : gV} {Z : va_W} {h0 : Nat} {sf rj : Nat} (hV : V rj = some (sf, oB 3 [.ref h0])) (hnc : ncH F h0 "LineRemarks$Caret") (hst : l.stackTraces = false) : vx_Met l yX3_says (wsW_ yX3_says cX3_says 3 (some FieldType.int) [(0, 233, 234, 21)]) ({ frames := 8, cells := 4, slots := 917, locals := 10256 }) (gP X F V (Z) [.ref sf, .int (zI 3)]) (gQi X (fun _ _ _ _ => False)) (gXc X (fun E q G U ws => E = "LineRemarks$Refused" ∧ gLe F G ∧ isRef G q 2 ∧ V = U ∧ Z = ws)) 4 917 (gA X) := by
  refine vx_Met.gH (by decide) (Nat.le_of_ble_eq_true rfl) ?_
  intro p e s m below meth c ls hx hb hr hts hown hlocks hml hin htab hG hl
  have hl : lv_has ls 3 [(0, .ref sf), (1, .int (zI 3))] := hl
  refine lv_iload_n hx hb dX3_says_0 rfl (lv_at hl 1 rfl) ?_
  refine g_tin hx hb 3 (off := 89) (tgt := 90) dX3_says_1 rfl (by decide) rfl (by decide) ?_
  refine lv_aload_n hx hb dX3_says_90 rfl (lv_at hl 0 rfl) ?_
  refine g_get (ci := 3) hx hb hts in_X3 hown hG (hG.vo hV) rfl 0 (Nat.le_of_ble_eq_true rfl) (hts _ q379) (fun _ h9 => h9) rfl dX3_says_91 ?_
  refine lv_ifnonnull (tgt := 101) hx hb dX3_says_94 (by decide) ?_
  refine lv_aload_n hx hb dX3_says_101 rfl (lv_at hl 0 rfl) ?_
  refine g_get (ci := 3) hx hb hts in_X3 hown hG (hG.vo hV) rfl 0 (Nat.le_of_ble_eq_true rfl) (hts _ q379) (fun _ h9 => h9) rfl dX3_says_102 ?_
  obtain ⟨ci9, fs9, c9, hh1, hh2, hh3, hh4, hh5⟩ := hnc
  refine g_castNo hx hb hown (hts _ q728) ((gW_xt hG).2.2.2.1 _ hh3) (g_recv hG (hG.fz hh1) hh2) (gW_xt hG).2.2.2.2 ⟨hh4, hh5⟩ ⟨by decide +kernel, by decide⟩ dX3_says_105 (fun tx htx => g_cce hx hst hts hG (hml.trans hl.1.symm).symm htx (Nat.le_of_ble_eq_true rfl) (Nat.le_of_ble_eq_true rfl) ⟨Nat.le_of_ble_eq_true rfl, Nat.le_of_ble_eq_true rfl⟩ hlocks (fun H q9 ce9 hG hce => ?_))
  refine g_catch (name := "java/lang/ClassCastException") hown htab [] ⟨0, 233, 234, 21⟩ [] rfl (fun z9 hz9 => absurd hz9 List.not_mem_nil) (by decide) (by decide) (hts _ q601) (hG.1.2.1.1 _ qn613) hce ?_
  refine lv_astore_n (lv' := [(2, .ref q9), (0, .ref sf), (1, .int (zI 3))]) hx hb dX3_says_234 rfl hl (by decide) rfl (fun ls hl => ?_)
  refine g_new (ci := 4) hx hb hts in_X5 tyX5 tyX5_ok hown (hts _ q617) (hts _ q497) (hts _ q109) hG rfl (fs := [.null, .null, .null, .null, .null, .int (zI 0), .int (zI 0)]) rfl ⟨Nat.le_of_ble_eq_true rfl, Nat.le_of_ble_eq_true rfl⟩ dX3_says_235 (fun q9 H (hG : gW X F V ((q9, oB 4 [.null, .null, .null, .null, .null, .int (zI 0), .int (zI 0)]) :: Z) s H _) => ?_)
  refine lv_dup hx hb dX3_says_238 rfl ?_
  refine lv_bipush (v := zI (-2)) hx hb dX3_says_239 (by decide +kernel) ?_
  refine g_cv (va_runI (As := [.int (zI (-2))]) (rest := [.ref q9]) ⟨hx, hb, hml, hown, hts⟩ (metX5_init) (cwI 1 hts (lw_meth q507) rfl rfl rfl (hts _ q109) (hts _ q618) (hts _ q506) rfl (by decide +kernel) ⟨Nat.le_of_ble_eq_true rfl, Nat.le_of_ble_eq_true rfl⟩) (g_preS hG) rfl rfl hl.1 rfl (lv_room (Nat.le_of_ble_eq_true rfl)) dX3_says_241 ⟨Nat.le_of_ble_eq_true rfl, Nat.le_of_ble_eq_true rfl⟩) hG (fun F_2 V_3 ws_ H locs hp hG => ?_)
  obtain ⟨rfl, rfl, rfl⟩ := hp
  have hG : gW X F V ((q9, oB 4 [.null, .null, .null, .null, .null, .int (zI 0), .int (zI (-2))]) :: Z) s H locs := hG
  obtain ⟨G9, hle_G9, hq9, hG⟩ := hG.freeze
  have hG : gW X G9 V (Z) s _ _ := hG
  refine vx_athrow hx hb dX3_says_244 ?_
  have hq9 : isRef G9 q9 2 := hq9
  obtain ⟨ce9, hce⟩ := ex_cell hG hq9 (k := (RX5, TX5, 7)) rfl
  exact g_out hown hlocks (by rw [htab]; exact (List.forall_mem_cons.mpr ⟨Or.inl (by decide), (fun z9 hz9 => absurd hz9 List.not_mem_nil)⟩)) hG hce (⟨rfl, hle_G9, hq9, rfl, rfl⟩) ⟨Nat.le_of_ble_eq_true rfl, Nat.le_of_ble_eq_true rfl⟩

set_option maxHeartbeats 4000000 in
theorem metX3_says_t3_3 {l : Launch} {X : gX} {F : gF} {V : gV} {Z : va_W} {rm i9 : Nat} {ra : Nat → Nat} {r : Rm} {sf rj : Nat} (hV : V rj = some (sf, oB 3 [.ref rm])) (hrm : isRmk F ra rm 3 i9 r) : vx_Met l yX3_says (wsW_ yX3_says cX3_says 3 (some FieldType.int) [(0, 233, 234, 21)]) ({ frames := 1, cells := 0, slots := 0, locals := 21 }) (gP X F V (Z) [.ref sf, .int (zI 3)]) (gQi X (fun u G U ws => u = zI (rBy r : Int) ∧ F = G ∧ V = U ∧ Z = ws)) (gXc X (fun _ _ _ _ _ => False)) 0 0 (gA X) := by
  refine vx_Met.gH (by decide) (Nat.le_of_ble_eq_true rfl) ?_
  intro p e s m below meth c ls hx hb hr hts hown hlocks hml hin htab hG hl
  have hl : lv_has ls 3 [(0, .ref sf), (1, .int (zI 3))] := hl
  refine lv_iload_n hx hb dX3_says_0 rfl (lv_at hl 1 rfl) ?_
  refine g_tin hx hb 3 (off := 89) (tgt := 90) dX3_says_1 rfl (by decide) rfl (by decide) ?_
  refine lv_aload_n hx hb dX3_says_90 rfl (lv_at hl 0 rfl) ?_
  refine g_get (ci := 3) hx hb hts in_X3 hown hG (hG.vo hV) rfl 0 (Nat.le_of_ble_eq_true rfl) (hts _ q379) (fun _ h9 => h9) rfl dX3_says_91 ?_
  refine lv_ifnonnull (tgt := 101) hx hb dX3_says_94 (by decide) ?_
  refine lv_aload_n hx hb dX3_says_101 rfl (lv_at hl 0 rfl) ?_
  refine g_get (ci := 3) hx hb hts in_X3 hown hG (hG.vo hV) rfl 0 (Nat.le_of_ble_eq_true rfl) (hts _ q379) (fun _ h9 => h9) rfl dX3_says_102 ?_
  refine va_castE hx hb hown (hts _ q728) (g_recv hG (hG.fz (show F.1 rm = some (oB 17 _) from hrm)) (ci := 17) rfl) dX3_says_105 ?_
  refine g_get (ci := 17) hx hb hts in_X19 hown hG (hG.fz (show F.1 rm = some (oB 17 _) from hrm)) rfl 1 (Nat.le_of_ble_eq_true rfl) (hts _ q2077) (u_same (hts _ q2078)) rfl dX3_says_108 ?_
  refine lv_istore_n (lv' := [(2, .int (zI (rBy r : Int))), (0, .ref sf), (1, .int (zI 3))]) hx hb dX3_says_111 rfl hl (by decide) rfl (fun ls hl => ?_)
  refine lv_goto (tgt := 215) hx hb dX3_says_112 (by decide) ?_
  refine lv_aload_n hx hb dX3_says_215 rfl (lv_at hl 1 rfl) ?_
  refine g_get (ci := 3) hx hb hts in_X3 hown hG (hG.vo hV) rfl 0 (Nat.le_of_ble_eq_true rfl) (hts _ q379) (fun _ h9 => h9) rfl dX3_says_216 ?_
  refine lv_ifnull hx hb dX3_says_219 ?_
  refine lv_iconst (v := zI 1) hx hb dX3_says_222 (by decide +kernel) ?_
  refine lv_goto (tgt := 227) hx hb dX3_says_223 (by decide) ?_
  refine lv_bipush (v := zI (-3)) hx hb dX3_says_227 (by decide +kernel) ?_
  refine g_cv (va_runS (As := [.int (zI 1), .int (zI (-3))]) (rest := []) ⟨hx, hb, hml, hown, hts⟩ (metX0_need_t (b := 1) (by decide)) (va_cwS 2 hts (lw_S q616 q521 q87 q522) rfl rfl rfl (by decide +kernel) ⟨Nat.le_of_ble_eq_true rfl, Nat.le_of_ble_eq_true rfl⟩) (g_preS hG) rfl rfl hl.1 rfl (lv_room (Nat.le_of_ble_eq_true rfl)) dX3_says_229 ⟨Nat.le_of_ble_eq_true rfl, Nat.le_of_ble_eq_true rfl⟩) hG (fun F_2 V_3 ws_ H locs hp hG => ?_)
  obtain ⟨rfl, rfl, rfl⟩ := hp
  have hG : gW X F V (Z) s H locs := hG
  refine lv_iload_n hx hb dX3_says_232 rfl (lv_at hl 0 rfl) ?_
  refine vx_ret ?_
  exact g_iret hx hb hr hlocks hG (⟨rfl, rfl, rfl, rfl⟩) ⟨Nat.le_of_ble_eq_true rfl, Nat.le_of_ble_eq_true rfl⟩ dX3_says_233

set_option maxHeartbeats 4000000 in
theorem metX3_says_t3_6 {l : Launch} {X : gX} {F : gF} {V : gV} {Z : va_W} {rm i9 : Nat} {ra : Nat → Nat} {r : Rm} {sf rj : Nat} (hV : V rj = some (sf, oB 3 [.ref rm])) (hrm : isRmk F ra rm 6 i9 r) : vx_Met l yX3_says (wsW_ yX3_says cX3_says 3 (some FieldType.int) [(0, 233, 234, 21)]) ({ frames := 1, cells := 0, slots := 0, locals := 21 }) (gP X F V (Z) [.ref sf, .int (zI 3)]) (gQi X (fun u G U ws => u = zI (rBy r : Int) ∧ F = G ∧ V = U ∧ Z = ws)) (gXc X (fun _ _ _ _ _ => False)) 0 0 (gA X) := by
  refine vx_Met.gH (by decide) (Nat.le_of_ble_eq_true rfl) ?_
  intro p e s m below meth c ls hx hb hr hts hown hlocks hml hin htab hG hl
  have hl : lv_has ls 3 [(0, .ref sf), (1, .int (zI 3))] := hl
  refine lv_iload_n hx hb dX3_says_0 rfl (lv_at hl 1 rfl) ?_
  refine g_tin hx hb 3 (off := 89) (tgt := 90) dX3_says_1 rfl (by decide) rfl (by decide) ?_
  refine lv_aload_n hx hb dX3_says_90 rfl (lv_at hl 0 rfl) ?_
  refine g_get (ci := 3) hx hb hts in_X3 hown hG (hG.vo hV) rfl 0 (Nat.le_of_ble_eq_true rfl) (hts _ q379) (fun _ h9 => h9) rfl dX3_says_91 ?_
  refine lv_ifnonnull (tgt := 101) hx hb dX3_says_94 (by decide) ?_
  refine lv_aload_n hx hb dX3_says_101 rfl (lv_at hl 0 rfl) ?_
  refine g_get (ci := 3) hx hb hts in_X3 hown hG (hG.vo hV) rfl 0 (Nat.le_of_ble_eq_true rfl) (hts _ q379) (fun _ h9 => h9) rfl dX3_says_102 ?_
  refine va_castY hx hb hown (hts _ q728) (hG.1.2.1.1 _ qn3795) (g_recv hG (hG.fz (show F.1 rm = some (oB 20 _) from hrm)) (ci := 20) rfl) dX3_says_105 ?_
  refine g_get (ci := 20) hx hb hts in_X22 hown hG (hG.fz (show F.1 rm = some (oB 20 _) from hrm)) rfl 1 (Nat.le_of_ble_eq_true rfl) (hts _ q2077) (u_same (hts _ q2078)) rfl dX3_says_108 ?_
  refine lv_istore_n (lv' := [(2, .int (zI (rBy r : Int))), (0, .ref sf), (1, .int (zI 3))]) hx hb dX3_says_111 rfl hl (by decide) rfl (fun ls hl => ?_)
  refine lv_goto (tgt := 215) hx hb dX3_says_112 (by decide) ?_
  refine lv_aload_n hx hb dX3_says_215 rfl (lv_at hl 1 rfl) ?_
  refine g_get (ci := 3) hx hb hts in_X3 hown hG (hG.vo hV) rfl 0 (Nat.le_of_ble_eq_true rfl) (hts _ q379) (fun _ h9 => h9) rfl dX3_says_216 ?_
  refine lv_ifnull hx hb dX3_says_219 ?_
  refine lv_iconst (v := zI 1) hx hb dX3_says_222 (by decide +kernel) ?_
  refine lv_goto (tgt := 227) hx hb dX3_says_223 (by decide) ?_
  refine lv_bipush (v := zI (-3)) hx hb dX3_says_227 (by decide +kernel) ?_
  refine g_cv (va_runS (As := [.int (zI 1), .int (zI (-3))]) (rest := []) ⟨hx, hb, hml, hown, hts⟩ (metX0_need_t (b := 1) (by decide)) (va_cwS 2 hts (lw_S q616 q521 q87 q522) rfl rfl rfl (by decide +kernel) ⟨Nat.le_of_ble_eq_true rfl, Nat.le_of_ble_eq_true rfl⟩) (g_preS hG) rfl rfl hl.1 rfl (lv_room (Nat.le_of_ble_eq_true rfl)) dX3_says_229 ⟨Nat.le_of_ble_eq_true rfl, Nat.le_of_ble_eq_true rfl⟩) hG (fun F_2 V_3 ws_ H locs hp hG => ?_)
  obtain ⟨rfl, rfl, rfl⟩ := hp
  have hG : gW X F V (Z) s H locs := hG
  refine lv_iload_n hx hb dX3_says_232 rfl (lv_at hl 0 rfl) ?_
  refine vx_ret ?_
  exact g_iret hx hb hr hlocks hG (⟨rfl, rfl, rfl, rfl⟩) ⟨Nat.le_of_ble_eq_true rfl, Nat.le_of_ble_eq_true rfl⟩ dX3_says_233

set_option maxHeartbeats 4000000 in
theorem metX3_says_n4 {l : Launch} {X : gX} {F : gF} {V : gV} {Z : va_W} {sf rj : Nat} (hV : V rj = some (sf, oB 3 [.null])) : vx_Met l yX3_says (wsW_ yX3_says cX3_says 3 (some FieldType.int) [(0, 233, 234, 21)]) ({ frames := 5, cells := 1, slots := 7, locals := 110 }) (gP X F V (Z) [.ref sf, .int (zI 4)]) (gQi X (fun _ _ _ _ => False)) (gXc X (fun E q G U ws => E = "LineRemarks$Refused" ∧ gLe F G ∧ isRef G q 3 ∧ V = U ∧ Z = ws)) 1 7 (gA X) := by
  refine vx_Met.gH (by decide) (Nat.le_of_ble_eq_true rfl) ?_
  intro p e s m below meth c ls hx hb hr hts hown hlocks hml hin htab hG hl
  have hl : lv_has ls 3 [(0, .ref sf), (1, .int (zI 4))] := hl
  refine lv_iload_n hx hb dX3_says_0 rfl (lv_at hl 1 rfl) ?_
  refine g_tin hx hb 4 (off := 114) (tgt := 115) dX3_says_1 rfl (by decide) rfl (by decide) ?_
  refine lv_aload_n hx hb dX3_says_115 rfl (lv_at hl 0 rfl) ?_
  refine g_get (ci := 3) hx hb hts in_X3 hown hG (hG.vo hV) rfl 0 (Nat.le_of_ble_eq_true rfl) (hts _ q379) (fun _ h9 => h9) rfl dX3_says_116 ?_
  refine lv_ifnonnullN hx hb dX3_says_119 ?_
  refine lv_iconst (v := zI (-1)) hx hb dX3_says_122 (by decide +kernel) ?_
  refine lv_goto (tgt := 136) hx hb dX3_says_123 (by decide) ?_
  refine lv_istore_n (lv' := [(2, .int (zI (-1))), (0, .ref sf), (1, .int (zI 4))]) hx hb dX3_says_136 rfl hl (by decide) rfl (fun ls hl => ?_)
  refine lv_goto (tgt := 215) hx hb dX3_says_137 (by decide) ?_
  refine lv_aload_n hx hb dX3_says_215 rfl (lv_at hl 1 rfl) ?_
  refine g_get (ci := 3) hx hb hts in_X3 hown hG (hG.vo hV) rfl 0 (Nat.le_of_ble_eq_true rfl) (hts _ q379) (fun _ h9 => h9) rfl dX3_says_216 ?_
  refine lv_ifnullN (tgt := 226) hx hb dX3_says_219 (by decide) ?_
  refine lv_iconst (v := zI 0) hx hb dX3_says_226 (by decide +kernel) ?_
  refine lv_bipush (v := zI (-3)) hx hb dX3_says_227 (by decide +kernel) ?_
  refine g_xv (vx_runS (As := [.int (zI 0), .int (zI (-3))]) (rest := []) ⟨hx, hb, hml, hown, hts⟩ (metX0_need_f (k := 3)) (va_cwS 2 hts (lw_S q616 q521 q87 q522) rfl rfl rfl (by decide +kernel) ⟨Nat.le_of_ble_eq_true rfl, Nat.le_of_ble_eq_true rfl⟩) (g_preS hG) rfl rfl hl.1 rfl (lv_room (Nat.le_of_ble_eq_true rfl)) dX3_says_229 ⟨Nat.le_of_ble_eq_true rfl, Nat.le_of_ble_eq_true rfl⟩) hG (fun E9 ce9 q9 Fx_4 Vx_5 ws_ H locs hpx hG hce => ?_) (fun F_2 V_3 ws_ H locs hp hG => ?_)
  · obtain ⟨rfl, hle_Fx_4, hq9, rfl, rfl⟩ := hpx
    have hG : gW X Fx_4 V (Z) s H locs := hG
    exact g_out hown hlocks (by rw [htab]; exact (List.forall_mem_cons.mpr ⟨Or.inr ⟨by decide, "java/lang/ClassCastException", hts _ q601, (gW_xt hG).2.2.2.1 _ qc69⟩, (fun z9 hz9 => absurd hz9 List.not_mem_nil)⟩)) hG hce (⟨rfl, hle_Fx_4, hq9, rfl, rfl⟩) ⟨Nat.le_of_ble_eq_true rfl, Nat.le_of_ble_eq_true rfl⟩
  exact hp.elim

set_option maxHeartbeats 4000000 in
theorem metX3_says_f4 {l : Launch} {X : gX} {F : gF} {V : gV} {Z : va_W} {h0 : Nat} {sf rj : Nat} (hV : V rj = some (sf, oB 3 [.ref h0])) (hnc : ncH F h0 "LineRemarks$Loose") (hst : l.stackTraces = false) : vx_Met l yX3_says (wsW_ yX3_says cX3_says 3 (some FieldType.int) [(0, 233, 234, 21)]) ({ frames := 8, cells := 4, slots := 917, locals := 10256 }) (gP X F V (Z) [.ref sf, .int (zI 4)]) (gQi X (fun _ _ _ _ => False)) (gXc X (fun E q G U ws => E = "LineRemarks$Refused" ∧ gLe F G ∧ isRef G q 2 ∧ V = U ∧ Z = ws)) 4 917 (gA X) := by
  refine vx_Met.gH (by decide) (Nat.le_of_ble_eq_true rfl) ?_
  intro p e s m below meth c ls hx hb hr hts hown hlocks hml hin htab hG hl
  have hl : lv_has ls 3 [(0, .ref sf), (1, .int (zI 4))] := hl
  refine lv_iload_n hx hb dX3_says_0 rfl (lv_at hl 1 rfl) ?_
  refine g_tin hx hb 4 (off := 114) (tgt := 115) dX3_says_1 rfl (by decide) rfl (by decide) ?_
  refine lv_aload_n hx hb dX3_says_115 rfl (lv_at hl 0 rfl) ?_
  refine g_get (ci := 3) hx hb hts in_X3 hown hG (hG.vo hV) rfl 0 (Nat.le_of_ble_eq_true rfl) (hts _ q379) (fun _ h9 => h9) rfl dX3_says_116 ?_
  refine lv_ifnonnull (tgt := 126) hx hb dX3_says_119 (by decide) ?_
  refine lv_aload_n hx hb dX3_says_126 rfl (lv_at hl 0 rfl) ?_
  refine g_get (ci := 3) hx hb hts in_X3 hown hG (hG.vo hV) rfl 0 (Nat.le_of_ble_eq_true rfl) (hts _ q379) (fun _ h9 => h9) rfl dX3_says_127 ?_
  obtain ⟨ci9, fs9, c9, hh1, hh2, hh3, hh4, hh5⟩ := hnc
  refine g_castNo hx hb hown (hts _ q729) ((gW_xt hG).2.2.2.1 _ hh3) (g_recv hG (hG.fz hh1) hh2) (gW_xt hG).2.2.2.2 ⟨hh4, hh5⟩ ⟨by decide +kernel, by decide⟩ dX3_says_130 (fun tx htx => g_cce hx hst hts hG (hml.trans hl.1.symm).symm htx (Nat.le_of_ble_eq_true rfl) (Nat.le_of_ble_eq_true rfl) ⟨Nat.le_of_ble_eq_true rfl, Nat.le_of_ble_eq_true rfl⟩ hlocks (fun H q9 ce9 hG hce => ?_))
  refine g_catch (name := "java/lang/ClassCastException") hown htab [] ⟨0, 233, 234, 21⟩ [] rfl (fun z9 hz9 => absurd hz9 List.not_mem_nil) (by decide) (by decide) (hts _ q601) (hG.1.2.1.1 _ qn613) hce ?_
  refine lv_astore_n (lv' := [(2, .ref q9), (0, .ref sf), (1, .int (zI 4))]) hx hb dX3_says_234 rfl hl (by decide) rfl (fun ls hl => ?_)
  refine g_new (ci := 4) hx hb hts in_X5 tyX5 tyX5_ok hown (hts _ q617) (hts _ q497) (hts _ q109) hG rfl (fs := [.null, .null, .null, .null, .null, .int (zI 0), .int (zI 0)]) rfl ⟨Nat.le_of_ble_eq_true rfl, Nat.le_of_ble_eq_true rfl⟩ dX3_says_235 (fun q9 H (hG : gW X F V ((q9, oB 4 [.null, .null, .null, .null, .null, .int (zI 0), .int (zI 0)]) :: Z) s H _) => ?_)
  refine lv_dup hx hb dX3_says_238 rfl ?_
  refine lv_bipush (v := zI (-2)) hx hb dX3_says_239 (by decide +kernel) ?_
  refine g_cv (va_runI (As := [.int (zI (-2))]) (rest := [.ref q9]) ⟨hx, hb, hml, hown, hts⟩ (metX5_init) (cwI 1 hts (lw_meth q507) rfl rfl rfl (hts _ q109) (hts _ q618) (hts _ q506) rfl (by decide +kernel) ⟨Nat.le_of_ble_eq_true rfl, Nat.le_of_ble_eq_true rfl⟩) (g_preS hG) rfl rfl hl.1 rfl (lv_room (Nat.le_of_ble_eq_true rfl)) dX3_says_241 ⟨Nat.le_of_ble_eq_true rfl, Nat.le_of_ble_eq_true rfl⟩) hG (fun F_2 V_3 ws_ H locs hp hG => ?_)
  obtain ⟨rfl, rfl, rfl⟩ := hp
  have hG : gW X F V ((q9, oB 4 [.null, .null, .null, .null, .null, .int (zI 0), .int (zI (-2))]) :: Z) s H locs := hG
  obtain ⟨G9, hle_G9, hq9, hG⟩ := hG.freeze
  have hG : gW X G9 V (Z) s _ _ := hG
  refine vx_athrow hx hb dX3_says_244 ?_
  have hq9 : isRef G9 q9 2 := hq9
  obtain ⟨ce9, hce⟩ := ex_cell hG hq9 (k := (RX5, TX5, 7)) rfl
  exact g_out hown hlocks (by rw [htab]; exact (List.forall_mem_cons.mpr ⟨Or.inl (by decide), (fun z9 hz9 => absurd hz9 List.not_mem_nil)⟩)) hG hce (⟨rfl, hle_G9, hq9, rfl, rfl⟩) ⟨Nat.le_of_ble_eq_true rfl, Nat.le_of_ble_eq_true rfl⟩

set_option maxHeartbeats 4000000 in
theorem metX3_says_t4_4 {l : Launch} {X : gX} {F : gF} {V : gV} {Z : va_W} {rm i9 : Nat} {ra : Nat → Nat} {r : Rm} {sf rj : Nat} (hV : V rj = some (sf, oB 3 [.ref rm])) (hrm : isRmk F ra rm 4 i9 r) : vx_Met l yX3_says (wsW_ yX3_says cX3_says 3 (some FieldType.int) [(0, 233, 234, 21)]) ({ frames := 1, cells := 0, slots := 0, locals := 21 }) (gP X F V (Z) [.ref sf, .int (zI 4)]) (gQi X (fun u G U ws => u = zI (rQ r : Int) ∧ F = G ∧ V = U ∧ Z = ws)) (gXc X (fun _ _ _ _ _ => False)) 0 0 (gA X) := by
  refine vx_Met.gH (by decide) (Nat.le_of_ble_eq_true rfl) ?_
  intro p e s m below meth c ls hx hb hr hts hown hlocks hml hin htab hG hl
  have hl : lv_has ls 3 [(0, .ref sf), (1, .int (zI 4))] := hl
  refine lv_iload_n hx hb dX3_says_0 rfl (lv_at hl 1 rfl) ?_
  refine g_tin hx hb 4 (off := 114) (tgt := 115) dX3_says_1 rfl (by decide) rfl (by decide) ?_
  refine lv_aload_n hx hb dX3_says_115 rfl (lv_at hl 0 rfl) ?_
  refine g_get (ci := 3) hx hb hts in_X3 hown hG (hG.vo hV) rfl 0 (Nat.le_of_ble_eq_true rfl) (hts _ q379) (fun _ h9 => h9) rfl dX3_says_116 ?_
  refine lv_ifnonnull (tgt := 126) hx hb dX3_says_119 (by decide) ?_
  refine lv_aload_n hx hb dX3_says_126 rfl (lv_at hl 0 rfl) ?_
  refine g_get (ci := 3) hx hb hts in_X3 hown hG (hG.vo hV) rfl 0 (Nat.le_of_ble_eq_true rfl) (hts _ q379) (fun _ h9 => h9) rfl dX3_says_127 ?_
  refine va_castE hx hb hown (hts _ q729) (g_recv hG (hG.fz (show F.1 rm = some (oB 18 _) from hrm)) (ci := 18) rfl) dX3_says_130 ?_
  refine g_get (ci := 18) hx hb hts in_X20 hown hG (hG.fz (show F.1 rm = some (oB 18 _) from hrm)) rfl 4 (Nat.le_of_ble_eq_true rfl) (hts _ q2095) (u_same (hts _ q2096)) rfl dX3_says_133 ?_
  refine lv_istore_n (lv' := [(2, .int (zI (rQ r : Int))), (0, .ref sf), (1, .int (zI 4))]) hx hb dX3_says_136 rfl hl (by decide) rfl (fun ls hl => ?_)
  refine lv_goto (tgt := 215) hx hb dX3_says_137 (by decide) ?_
  refine lv_aload_n hx hb dX3_says_215 rfl (lv_at hl 1 rfl) ?_
  refine g_get (ci := 3) hx hb hts in_X3 hown hG (hG.vo hV) rfl 0 (Nat.le_of_ble_eq_true rfl) (hts _ q379) (fun _ h9 => h9) rfl dX3_says_216 ?_
  refine lv_ifnull hx hb dX3_says_219 ?_
  refine lv_iconst (v := zI 1) hx hb dX3_says_222 (by decide +kernel) ?_
  refine lv_goto (tgt := 227) hx hb dX3_says_223 (by decide) ?_
  refine lv_bipush (v := zI (-3)) hx hb dX3_says_227 (by decide +kernel) ?_
  refine g_cv (va_runS (As := [.int (zI 1), .int (zI (-3))]) (rest := []) ⟨hx, hb, hml, hown, hts⟩ (metX0_need_t (b := 1) (by decide)) (va_cwS 2 hts (lw_S q616 q521 q87 q522) rfl rfl rfl (by decide +kernel) ⟨Nat.le_of_ble_eq_true rfl, Nat.le_of_ble_eq_true rfl⟩) (g_preS hG) rfl rfl hl.1 rfl (lv_room (Nat.le_of_ble_eq_true rfl)) dX3_says_229 ⟨Nat.le_of_ble_eq_true rfl, Nat.le_of_ble_eq_true rfl⟩) hG (fun F_2 V_3 ws_ H locs hp hG => ?_)
  obtain ⟨rfl, rfl, rfl⟩ := hp
  have hG : gW X F V (Z) s H locs := hG
  refine lv_iload_n hx hb dX3_says_232 rfl (lv_at hl 0 rfl) ?_
  refine vx_ret ?_
  exact g_iret hx hb hr hlocks hG (⟨rfl, rfl, rfl, rfl⟩) ⟨Nat.le_of_ble_eq_true rfl, Nat.le_of_ble_eq_true rfl⟩ dX3_says_233

set_option maxHeartbeats 4000000 in
theorem metX3_says_n5 {l : Launch} {X : gX} {F : gF} {V : gV} {Z : va_W} {sf rj : Nat} (hV : V rj = some (sf, oB 3 [.null])) : vx_Met l yX3_says (wsW_ yX3_says cX3_says 3 (some FieldType.int) [(0, 233, 234, 21)]) ({ frames := 5, cells := 1, slots := 7, locals := 110 }) (gP X F V (Z) [.ref sf, .int (zI 5)]) (gQi X (fun _ _ _ _ => False)) (gXc X (fun E q G U ws => E = "LineRemarks$Refused" ∧ gLe F G ∧ isRef G q 3 ∧ V = U ∧ Z = ws)) 1 7 (gA X) := by
  refine vx_Met.gH (by decide) (Nat.le_of_ble_eq_true rfl) ?_
  intro p e s m below meth c ls hx hb hr hts hown hlocks hml hin htab hG hl
  have hl : lv_has ls 3 [(0, .ref sf), (1, .int (zI 5))] := hl
  refine lv_iload_n hx hb dX3_says_0 rfl (lv_at hl 1 rfl) ?_
  refine g_tin hx hb 5 (off := 139) (tgt := 140) dX3_says_1 rfl (by decide) rfl (by decide) ?_
  refine lv_aload_n hx hb dX3_says_140 rfl (lv_at hl 0 rfl) ?_
  refine g_get (ci := 3) hx hb hts in_X3 hown hG (hG.vo hV) rfl 0 (Nat.le_of_ble_eq_true rfl) (hts _ q379) (fun _ h9 => h9) rfl dX3_says_141 ?_
  refine lv_ifnonnullN hx hb dX3_says_144 ?_
  refine lv_iconst (v := zI (-1)) hx hb dX3_says_147 (by decide +kernel) ?_
  refine lv_goto (tgt := 161) hx hb dX3_says_148 (by decide) ?_
  refine lv_istore_n (lv' := [(2, .int (zI (-1))), (0, .ref sf), (1, .int (zI 5))]) hx hb dX3_says_161 rfl hl (by decide) rfl (fun ls hl => ?_)
  refine lv_goto (tgt := 215) hx hb dX3_says_162 (by decide) ?_
  refine lv_aload_n hx hb dX3_says_215 rfl (lv_at hl 1 rfl) ?_
  refine g_get (ci := 3) hx hb hts in_X3 hown hG (hG.vo hV) rfl 0 (Nat.le_of_ble_eq_true rfl) (hts _ q379) (fun _ h9 => h9) rfl dX3_says_216 ?_
  refine lv_ifnullN (tgt := 226) hx hb dX3_says_219 (by decide) ?_
  refine lv_iconst (v := zI 0) hx hb dX3_says_226 (by decide +kernel) ?_
  refine lv_bipush (v := zI (-3)) hx hb dX3_says_227 (by decide +kernel) ?_
  refine g_xv (vx_runS (As := [.int (zI 0), .int (zI (-3))]) (rest := []) ⟨hx, hb, hml, hown, hts⟩ (metX0_need_f (k := 3)) (va_cwS 2 hts (lw_S q616 q521 q87 q522) rfl rfl rfl (by decide +kernel) ⟨Nat.le_of_ble_eq_true rfl, Nat.le_of_ble_eq_true rfl⟩) (g_preS hG) rfl rfl hl.1 rfl (lv_room (Nat.le_of_ble_eq_true rfl)) dX3_says_229 ⟨Nat.le_of_ble_eq_true rfl, Nat.le_of_ble_eq_true rfl⟩) hG (fun E9 ce9 q9 Fx_4 Vx_5 ws_ H locs hpx hG hce => ?_) (fun F_2 V_3 ws_ H locs hp hG => ?_)
  · obtain ⟨rfl, hle_Fx_4, hq9, rfl, rfl⟩ := hpx
    have hG : gW X Fx_4 V (Z) s H locs := hG
    exact g_out hown hlocks (by rw [htab]; exact (List.forall_mem_cons.mpr ⟨Or.inr ⟨by decide, "java/lang/ClassCastException", hts _ q601, (gW_xt hG).2.2.2.1 _ qc69⟩, (fun z9 hz9 => absurd hz9 List.not_mem_nil)⟩)) hG hce (⟨rfl, hle_Fx_4, hq9, rfl, rfl⟩) ⟨Nat.le_of_ble_eq_true rfl, Nat.le_of_ble_eq_true rfl⟩
  exact hp.elim

set_option maxHeartbeats 4000000 in
theorem metX3_says_f5 {l : Launch} {X : gX} {F : gF} {V : gV} {Z : va_W} {h0 : Nat} {sf rj : Nat} (hV : V rj = some (sf, oB 3 [.ref h0])) (hnc : ncH F h0 "LineRemarks$Wall") (hst : l.stackTraces = false) : vx_Met l yX3_says (wsW_ yX3_says cX3_says 3 (some FieldType.int) [(0, 233, 234, 21)]) ({ frames := 8, cells := 4, slots := 917, locals := 10256 }) (gP X F V (Z) [.ref sf, .int (zI 5)]) (gQi X (fun _ _ _ _ => False)) (gXc X (fun E q G U ws => E = "LineRemarks$Refused" ∧ gLe F G ∧ isRef G q 2 ∧ V = U ∧ Z = ws)) 4 917 (gA X) := by
  refine vx_Met.gH (by decide) (Nat.le_of_ble_eq_true rfl) ?_
  intro p e s m below meth c ls hx hb hr hts hown hlocks hml hin htab hG hl
  have hl : lv_has ls 3 [(0, .ref sf), (1, .int (zI 5))] := hl
  refine lv_iload_n hx hb dX3_says_0 rfl (lv_at hl 1 rfl) ?_
  refine g_tin hx hb 5 (off := 139) (tgt := 140) dX3_says_1 rfl (by decide) rfl (by decide) ?_
  refine lv_aload_n hx hb dX3_says_140 rfl (lv_at hl 0 rfl) ?_
  refine g_get (ci := 3) hx hb hts in_X3 hown hG (hG.vo hV) rfl 0 (Nat.le_of_ble_eq_true rfl) (hts _ q379) (fun _ h9 => h9) rfl dX3_says_141 ?_
  refine lv_ifnonnull (tgt := 151) hx hb dX3_says_144 (by decide) ?_
  refine lv_aload_n hx hb dX3_says_151 rfl (lv_at hl 0 rfl) ?_
  refine g_get (ci := 3) hx hb hts in_X3 hown hG (hG.vo hV) rfl 0 (Nat.le_of_ble_eq_true rfl) (hts _ q379) (fun _ h9 => h9) rfl dX3_says_152 ?_
  obtain ⟨ci9, fs9, c9, hh1, hh2, hh3, hh4, hh5⟩ := hnc
  refine g_castNo hx hb hown (hts _ q730) ((gW_xt hG).2.2.2.1 _ hh3) (g_recv hG (hG.fz hh1) hh2) (gW_xt hG).2.2.2.2 ⟨hh4, hh5⟩ ⟨by decide +kernel, by decide⟩ dX3_says_155 (fun tx htx => g_cce hx hst hts hG (hml.trans hl.1.symm).symm htx (Nat.le_of_ble_eq_true rfl) (Nat.le_of_ble_eq_true rfl) ⟨Nat.le_of_ble_eq_true rfl, Nat.le_of_ble_eq_true rfl⟩ hlocks (fun H q9 ce9 hG hce => ?_))
  refine g_catch (name := "java/lang/ClassCastException") hown htab [] ⟨0, 233, 234, 21⟩ [] rfl (fun z9 hz9 => absurd hz9 List.not_mem_nil) (by decide) (by decide) (hts _ q601) (hG.1.2.1.1 _ qn613) hce ?_
  refine lv_astore_n (lv' := [(2, .ref q9), (0, .ref sf), (1, .int (zI 5))]) hx hb dX3_says_234 rfl hl (by decide) rfl (fun ls hl => ?_)
  refine g_new (ci := 4) hx hb hts in_X5 tyX5 tyX5_ok hown (hts _ q617) (hts _ q497) (hts _ q109) hG rfl (fs := [.null, .null, .null, .null, .null, .int (zI 0), .int (zI 0)]) rfl ⟨Nat.le_of_ble_eq_true rfl, Nat.le_of_ble_eq_true rfl⟩ dX3_says_235 (fun q9 H (hG : gW X F V ((q9, oB 4 [.null, .null, .null, .null, .null, .int (zI 0), .int (zI 0)]) :: Z) s H _) => ?_)
  refine lv_dup hx hb dX3_says_238 rfl ?_
  refine lv_bipush (v := zI (-2)) hx hb dX3_says_239 (by decide +kernel) ?_
  refine g_cv (va_runI (As := [.int (zI (-2))]) (rest := [.ref q9]) ⟨hx, hb, hml, hown, hts⟩ (metX5_init) (cwI 1 hts (lw_meth q507) rfl rfl rfl (hts _ q109) (hts _ q618) (hts _ q506) rfl (by decide +kernel) ⟨Nat.le_of_ble_eq_true rfl, Nat.le_of_ble_eq_true rfl⟩) (g_preS hG) rfl rfl hl.1 rfl (lv_room (Nat.le_of_ble_eq_true rfl)) dX3_says_241 ⟨Nat.le_of_ble_eq_true rfl, Nat.le_of_ble_eq_true rfl⟩) hG (fun F_2 V_3 ws_ H locs hp hG => ?_)
  obtain ⟨rfl, rfl, rfl⟩ := hp
  have hG : gW X F V ((q9, oB 4 [.null, .null, .null, .null, .null, .int (zI 0), .int (zI (-2))]) :: Z) s H locs := hG
  obtain ⟨G9, hle_G9, hq9, hG⟩ := hG.freeze
  have hG : gW X G9 V (Z) s _ _ := hG
  refine vx_athrow hx hb dX3_says_244 ?_
  have hq9 : isRef G9 q9 2 := hq9
  obtain ⟨ce9, hce⟩ := ex_cell hG hq9 (k := (RX5, TX5, 7)) rfl
  exact g_out hown hlocks (by rw [htab]; exact (List.forall_mem_cons.mpr ⟨Or.inl (by decide), (fun z9 hz9 => absurd hz9 List.not_mem_nil)⟩)) hG hce (⟨rfl, hle_G9, hq9, rfl, rfl⟩) ⟨Nat.le_of_ble_eq_true rfl, Nat.le_of_ble_eq_true rfl⟩

set_option maxHeartbeats 4000000 in
theorem metX3_says_t5_5 {l : Launch} {X : gX} {F : gF} {V : gV} {Z : va_W} {rm i9 : Nat} {ra : Nat → Nat} {r : Rm} {sf rj : Nat} (hV : V rj = some (sf, oB 3 [.ref rm])) (hrm : isRmk F ra rm 5 i9 r) : vx_Met l yX3_says (wsW_ yX3_says cX3_says 3 (some FieldType.int) [(0, 233, 234, 21)]) ({ frames := 1, cells := 0, slots := 0, locals := 21 }) (gP X F V (Z) [.ref sf, .int (zI 5)]) (gQi X (fun u G U ws => u = zI ((rQ r : Int) - (rP r : Int) + 1) ∧ F = G ∧ V = U ∧ Z = ws)) (gXc X (fun _ _ _ _ _ => False)) 0 0 (gA X) := by
  refine vx_Met.gH (by decide) (Nat.le_of_ble_eq_true rfl) ?_
  intro p e s m below meth c ls hx hb hr hts hown hlocks hml hin htab hG hl
  have hl : lv_has ls 3 [(0, .ref sf), (1, .int (zI 5))] := hl
  refine lv_iload_n hx hb dX3_says_0 rfl (lv_at hl 1 rfl) ?_
  refine g_tin hx hb 5 (off := 139) (tgt := 140) dX3_says_1 rfl (by decide) rfl (by decide) ?_
  refine lv_aload_n hx hb dX3_says_140 rfl (lv_at hl 0 rfl) ?_
  refine g_get (ci := 3) hx hb hts in_X3 hown hG (hG.vo hV) rfl 0 (Nat.le_of_ble_eq_true rfl) (hts _ q379) (fun _ h9 => h9) rfl dX3_says_141 ?_
  refine lv_ifnonnull (tgt := 151) hx hb dX3_says_144 (by decide) ?_
  refine lv_aload_n hx hb dX3_says_151 rfl (lv_at hl 0 rfl) ?_
  refine g_get (ci := 3) hx hb hts in_X3 hown hG (hG.vo hV) rfl 0 (Nat.le_of_ble_eq_true rfl) (hts _ q379) (fun _ h9 => h9) rfl dX3_says_152 ?_
  refine va_castE hx hb hown (hts _ q730) (g_recv hG (hG.fz (show F.1 rm = some (oB 19 _) from hrm)) (ci := 19) rfl) dX3_says_155 ?_
  refine g_ci (va_runS (As := [.ref rm]) (rest := []) ⟨hx, hb, hml, hown, hts⟩ (metX3_length_5 hrm) (va_cwS 1 hts (lw_S q725 q726 q101 q727) rfl rfl rfl (by decide +kernel) ⟨Nat.le_of_ble_eq_true rfl, Nat.le_of_ble_eq_true rfl⟩) (g_preS hG) rfl rfl hl.1 rfl (lv_room (Nat.le_of_ble_eq_true rfl)) dX3_says_158 ⟨Nat.le_of_ble_eq_true rfl, Nat.le_of_ble_eq_true rfl⟩) hG (fun r_1 F_2 V_3 ws_ H locs hp hG => ?_)
  obtain ⟨rfl, rfl, rfl, rfl⟩ := hp
  have hG : gW X F V (Z) s H locs := hG
  refine lv_istore_n (lv' := [(2, .int (zI ((rQ r : Int) - (rP r : Int) + 1))), (0, .ref sf), (1, .int (zI 5))]) hx hb dX3_says_161 rfl hl (by decide) rfl (fun ls hl => ?_)
  refine lv_goto (tgt := 215) hx hb dX3_says_162 (by decide) ?_
  refine lv_aload_n hx hb dX3_says_215 rfl (lv_at hl 1 rfl) ?_
  refine g_get (ci := 3) hx hb hts in_X3 hown hG (hG.vo hV) rfl 0 (Nat.le_of_ble_eq_true rfl) (hts _ q379) (fun _ h9 => h9) rfl dX3_says_216 ?_
  refine lv_ifnull hx hb dX3_says_219 ?_
  refine lv_iconst (v := zI 1) hx hb dX3_says_222 (by decide +kernel) ?_
  refine lv_goto (tgt := 227) hx hb dX3_says_223 (by decide) ?_
  refine lv_bipush (v := zI (-3)) hx hb dX3_says_227 (by decide +kernel) ?_
  refine g_cv (va_runS (As := [.int (zI 1), .int (zI (-3))]) (rest := []) ⟨hx, hb, hml, hown, hts⟩ (metX0_need_t (b := 1) (by decide)) (va_cwS 2 hts (lw_S q616 q521 q87 q522) rfl rfl rfl (by decide +kernel) ⟨Nat.le_of_ble_eq_true rfl, Nat.le_of_ble_eq_true rfl⟩) (g_preS hG) rfl rfl hl.1 rfl (lv_room (Nat.le_of_ble_eq_true rfl)) dX3_says_229 ⟨Nat.le_of_ble_eq_true rfl, Nat.le_of_ble_eq_true rfl⟩) hG (fun F_5 V_6 ws_ H locs hp hG => ?_)
  obtain ⟨rfl, rfl, rfl⟩ := hp
  have hG : gW X F V (Z) s H locs := hG
  refine lv_iload_n hx hb dX3_says_232 rfl (lv_at hl 0 rfl) ?_
  refine vx_ret ?_
  exact g_iret hx hb hr hlocks hG (⟨rfl, rfl, rfl, rfl⟩) ⟨Nat.le_of_ble_eq_true rfl, Nat.le_of_ble_eq_true rfl⟩ dX3_says_233

set_option maxHeartbeats 4000000 in
theorem metX3_says_n6 {l : Launch} {X : gX} {F : gF} {V : gV} {Z : va_W} {sf rj : Nat} (hV : V rj = some (sf, oB 3 [.null])) : vx_Met l yX3_says (wsW_ yX3_says cX3_says 3 (some FieldType.int) [(0, 233, 234, 21)]) ({ frames := 5, cells := 1, slots := 7, locals := 110 }) (gP X F V (Z) [.ref sf, .int (zI 6)]) (gQi X (fun _ _ _ _ => False)) (gXc X (fun E q G U ws => E = "LineRemarks$Refused" ∧ gLe F G ∧ isRef G q 3 ∧ V = U ∧ Z = ws)) 1 7 (gA X) := by
  refine vx_Met.gH (by decide) (Nat.le_of_ble_eq_true rfl) ?_
  intro p e s m below meth c ls hx hb hr hts hown hlocks hml hin htab hG hl
  have hl : lv_has ls 3 [(0, .ref sf), (1, .int (zI 6))] := hl
  refine lv_iload_n hx hb dX3_says_0 rfl (lv_at hl 1 rfl) ?_
  refine g_tin hx hb 6 (off := 164) (tgt := 165) dX3_says_1 rfl (by decide) rfl (by decide) ?_
  refine lv_aload_n hx hb dX3_says_165 rfl (lv_at hl 0 rfl) ?_
  refine g_get (ci := 3) hx hb hts in_X3 hown hG (hG.vo hV) rfl 0 (Nat.le_of_ble_eq_true rfl) (hts _ q379) (fun _ h9 => h9) rfl dX3_says_166 ?_
  refine lv_ifnonnullN hx hb dX3_says_169 ?_
  refine lv_iconst (v := zI (-1)) hx hb dX3_says_172 (by decide +kernel) ?_
  refine lv_goto (tgt := 189) hx hb dX3_says_173 (by decide) ?_
  refine lv_istore_n (lv' := [(2, .int (zI (-1))), (0, .ref sf), (1, .int (zI 6))]) hx hb dX3_says_189 rfl hl (by decide) rfl (fun ls hl => ?_)
  refine lv_goto (tgt := 215) hx hb dX3_says_190 (by decide) ?_
  refine lv_aload_n hx hb dX3_says_215 rfl (lv_at hl 1 rfl) ?_
  refine g_get (ci := 3) hx hb hts in_X3 hown hG (hG.vo hV) rfl 0 (Nat.le_of_ble_eq_true rfl) (hts _ q379) (fun _ h9 => h9) rfl dX3_says_216 ?_
  refine lv_ifnullN (tgt := 226) hx hb dX3_says_219 (by decide) ?_
  refine lv_iconst (v := zI 0) hx hb dX3_says_226 (by decide +kernel) ?_
  refine lv_bipush (v := zI (-3)) hx hb dX3_says_227 (by decide +kernel) ?_
  refine g_xv (vx_runS (As := [.int (zI 0), .int (zI (-3))]) (rest := []) ⟨hx, hb, hml, hown, hts⟩ (metX0_need_f (k := 3)) (va_cwS 2 hts (lw_S q616 q521 q87 q522) rfl rfl rfl (by decide +kernel) ⟨Nat.le_of_ble_eq_true rfl, Nat.le_of_ble_eq_true rfl⟩) (g_preS hG) rfl rfl hl.1 rfl (lv_room (Nat.le_of_ble_eq_true rfl)) dX3_says_229 ⟨Nat.le_of_ble_eq_true rfl, Nat.le_of_ble_eq_true rfl⟩) hG (fun E9 ce9 q9 Fx_4 Vx_5 ws_ H locs hpx hG hce => ?_) (fun F_2 V_3 ws_ H locs hp hG => ?_)
  · obtain ⟨rfl, hle_Fx_4, hq9, rfl, rfl⟩ := hpx
    have hG : gW X Fx_4 V (Z) s H locs := hG
    exact g_out hown hlocks (by rw [htab]; exact (List.forall_mem_cons.mpr ⟨Or.inr ⟨by decide, "java/lang/ClassCastException", hts _ q601, (gW_xt hG).2.2.2.1 _ qc69⟩, (fun z9 hz9 => absurd hz9 List.not_mem_nil)⟩)) hG hce (⟨rfl, hle_Fx_4, hq9, rfl, rfl⟩) ⟨Nat.le_of_ble_eq_true rfl, Nat.le_of_ble_eq_true rfl⟩
  exact hp.elim

set_option maxHeartbeats 4000000 in
theorem metX3_says_f6 {l : Launch} {X : gX} {F : gF} {V : gV} {Z : va_W} {h0 : Nat} {sf rj : Nat} (hV : V rj = some (sf, oB 3 [.ref h0])) (hnc : ncH F h0 "LineRemarks$Tail") (hst : l.stackTraces = false) : vx_Met l yX3_says (wsW_ yX3_says cX3_says 3 (some FieldType.int) [(0, 233, 234, 21)]) ({ frames := 8, cells := 4, slots := 917, locals := 10256 }) (gP X F V (Z) [.ref sf, .int (zI 6)]) (gQi X (fun _ _ _ _ => False)) (gXc X (fun E q G U ws => E = "LineRemarks$Refused" ∧ gLe F G ∧ isRef G q 2 ∧ V = U ∧ Z = ws)) 4 917 (gA X) := by
  refine vx_Met.gH (by decide) (Nat.le_of_ble_eq_true rfl) ?_
  intro p e s m below meth c ls hx hb hr hts hown hlocks hml hin htab hG hl
  have hl : lv_has ls 3 [(0, .ref sf), (1, .int (zI 6))] := hl
  refine lv_iload_n hx hb dX3_says_0 rfl (lv_at hl 1 rfl) ?_
  refine g_tin hx hb 6 (off := 164) (tgt := 165) dX3_says_1 rfl (by decide) rfl (by decide) ?_
  refine lv_aload_n hx hb dX3_says_165 rfl (lv_at hl 0 rfl) ?_
  refine g_get (ci := 3) hx hb hts in_X3 hown hG (hG.vo hV) rfl 0 (Nat.le_of_ble_eq_true rfl) (hts _ q379) (fun _ h9 => h9) rfl dX3_says_166 ?_
  refine lv_ifnonnull (tgt := 176) hx hb dX3_says_169 (by decide) ?_
  refine lv_aload_n hx hb dX3_says_176 rfl (lv_at hl 0 rfl) ?_
  refine g_get (ci := 3) hx hb hts in_X3 hown hG (hG.vo hV) rfl 0 (Nat.le_of_ble_eq_true rfl) (hts _ q379) (fun _ h9 => h9) rfl dX3_says_177 ?_
  obtain ⟨ci9, fs9, c9, hh1, hh2, hh3, hh4, hh5⟩ := hnc
  refine g_castNo hx hb hown (hts _ q731) ((gW_xt hG).2.2.2.1 _ hh3) (g_recv hG (hG.fz hh1) hh2) (gW_xt hG).2.2.2.2 ⟨hh4, hh5⟩ ⟨by decide +kernel, by decide⟩ dX3_says_180 (fun tx htx => g_cce hx hst hts hG (hml.trans hl.1.symm).symm htx (Nat.le_of_ble_eq_true rfl) (Nat.le_of_ble_eq_true rfl) ⟨Nat.le_of_ble_eq_true rfl, Nat.le_of_ble_eq_true rfl⟩ hlocks (fun H q9 ce9 hG hce => ?_))
  refine g_catch (name := "java/lang/ClassCastException") hown htab [] ⟨0, 233, 234, 21⟩ [] rfl (fun z9 hz9 => absurd hz9 List.not_mem_nil) (by decide) (by decide) (hts _ q601) (hG.1.2.1.1 _ qn613) hce ?_
  refine lv_astore_n (lv' := [(2, .ref q9), (0, .ref sf), (1, .int (zI 6))]) hx hb dX3_says_234 rfl hl (by decide) rfl (fun ls hl => ?_)
  refine g_new (ci := 4) hx hb hts in_X5 tyX5 tyX5_ok hown (hts _ q617) (hts _ q497) (hts _ q109) hG rfl (fs := [.null, .null, .null, .null, .null, .int (zI 0), .int (zI 0)]) rfl ⟨Nat.le_of_ble_eq_true rfl, Nat.le_of_ble_eq_true rfl⟩ dX3_says_235 (fun q9 H (hG : gW X F V ((q9, oB 4 [.null, .null, .null, .null, .null, .int (zI 0), .int (zI 0)]) :: Z) s H _) => ?_)
  refine lv_dup hx hb dX3_says_238 rfl ?_
  refine lv_bipush (v := zI (-2)) hx hb dX3_says_239 (by decide +kernel) ?_
  refine g_cv (va_runI (As := [.int (zI (-2))]) (rest := [.ref q9]) ⟨hx, hb, hml, hown, hts⟩ (metX5_init) (cwI 1 hts (lw_meth q507) rfl rfl rfl (hts _ q109) (hts _ q618) (hts _ q506) rfl (by decide +kernel) ⟨Nat.le_of_ble_eq_true rfl, Nat.le_of_ble_eq_true rfl⟩) (g_preS hG) rfl rfl hl.1 rfl (lv_room (Nat.le_of_ble_eq_true rfl)) dX3_says_241 ⟨Nat.le_of_ble_eq_true rfl, Nat.le_of_ble_eq_true rfl⟩) hG (fun F_2 V_3 ws_ H locs hp hG => ?_)
  obtain ⟨rfl, rfl, rfl⟩ := hp
  have hG : gW X F V ((q9, oB 4 [.null, .null, .null, .null, .null, .int (zI 0), .int (zI (-2))]) :: Z) s H locs := hG
  obtain ⟨G9, hle_G9, hq9, hG⟩ := hG.freeze
  have hG : gW X G9 V (Z) s _ _ := hG
  refine vx_athrow hx hb dX3_says_244 ?_
  have hq9 : isRef G9 q9 2 := hq9
  obtain ⟨ce9, hce⟩ := ex_cell hG hq9 (k := (RX5, TX5, 7)) rfl
  exact g_out hown hlocks (by rw [htab]; exact (List.forall_mem_cons.mpr ⟨Or.inl (by decide), (fun z9 hz9 => absurd hz9 List.not_mem_nil)⟩)) hG hce (⟨rfl, hle_G9, hq9, rfl, rfl⟩) ⟨Nat.le_of_ble_eq_true rfl, Nat.le_of_ble_eq_true rfl⟩

set_option maxHeartbeats 4000000 in
theorem metX3_says_t6_6 {l : Launch} {X : gX} {F : gF} {V : gV} {Z : va_W} {rm i9 : Nat} {ra : Nat → Nat} {r : Rm} {sf rj : Nat} (hV : V rj = some (sf, oB 3 [.ref rm])) (hrm : isRmk F ra rm 6 i9 r) {fo9 : Option Nat} {lt9 : Nat} (hrv : F.2 (ra (rOn r)) = some (rOn r, fo9, lt9)) : vx_Met l yX3_says (wsW_ yX3_says cX3_says 3 (some FieldType.int) [(0, 233, 234, 21)]) ({ frames := 1, cells := 0, slots := 0, locals := 21 }) (gP X F V (Z) [.ref sf, .int (zI 6)]) (gQi X (fun u G U ws => u = zI ((rOn r : Nat) : Int) ∧ F = G ∧ V = U ∧ Z = ws)) (gXc X (fun _ _ _ _ _ => False)) 0 0 (gA X) := by
  refine vx_Met.gH (by decide) (Nat.le_of_ble_eq_true rfl) ?_
  intro p e s m below meth c ls hx hb hr hts hown hlocks hml hin htab hG hl
  have hl : lv_has ls 3 [(0, .ref sf), (1, .int (zI 6))] := hl
  refine lv_iload_n hx hb dX3_says_0 rfl (lv_at hl 1 rfl) ?_
  refine g_tin hx hb 6 (off := 164) (tgt := 165) dX3_says_1 rfl (by decide) rfl (by decide) ?_
  refine lv_aload_n hx hb dX3_says_165 rfl (lv_at hl 0 rfl) ?_
  refine g_get (ci := 3) hx hb hts in_X3 hown hG (hG.vo hV) rfl 0 (Nat.le_of_ble_eq_true rfl) (hts _ q379) (fun _ h9 => h9) rfl dX3_says_166 ?_
  refine lv_ifnonnull (tgt := 176) hx hb dX3_says_169 (by decide) ?_
  refine lv_aload_n hx hb dX3_says_176 rfl (lv_at hl 0 rfl) ?_
  refine g_get (ci := 3) hx hb hts in_X3 hown hG (hG.vo hV) rfl 0 (Nat.le_of_ble_eq_true rfl) (hts _ q379) (fun _ h9 => h9) rfl dX3_says_177 ?_
  refine va_castE hx hb hown (hts _ q731) (g_recv hG (hG.fz (show F.1 rm = some (oB 20 _) from hrm)) (ci := 20) rfl) dX3_says_180 ?_
  refine g_get (ci := 20) hx hb hts in_X22 hown hG (hG.fz (show F.1 rm = some (oB 20 _) from hrm)) rfl 2 (Nat.le_of_ble_eq_true rfl) (hts _ q2082) (u_same (hts _ q2083)) rfl dX3_says_183 ?_
  obtain ⟨vc_1, hrvc_1, hgvc_1⟩ := hG.rv hrv
  refine g_get (ci := 12) hx hb hts in_X14 hown hG hrvc_1 rfl 0 (Nat.le_of_ble_eq_true rfl) (hts _ q1720) (fun _ h9 => h9) rfl dX3_says_186 ?_
  refine lv_istore_n (lv' := [(2, .int (zI ((rOn r : Nat) : Int))), (0, .ref sf), (1, .int (zI 6))]) hx hb dX3_says_189 rfl hl (by decide) rfl (fun ls hl => ?_)
  refine lv_goto (tgt := 215) hx hb dX3_says_190 (by decide) ?_
  refine lv_aload_n hx hb dX3_says_215 rfl (lv_at hl 1 rfl) ?_
  refine g_get (ci := 3) hx hb hts in_X3 hown hG (hG.vo hV) rfl 0 (Nat.le_of_ble_eq_true rfl) (hts _ q379) (fun _ h9 => h9) rfl dX3_says_216 ?_
  refine lv_ifnull hx hb dX3_says_219 ?_
  refine lv_iconst (v := zI 1) hx hb dX3_says_222 (by decide +kernel) ?_
  refine lv_goto (tgt := 227) hx hb dX3_says_223 (by decide) ?_
  refine lv_bipush (v := zI (-3)) hx hb dX3_says_227 (by decide +kernel) ?_
  refine g_cv (va_runS (As := [.int (zI 1), .int (zI (-3))]) (rest := []) ⟨hx, hb, hml, hown, hts⟩ (metX0_need_t (b := 1) (by decide)) (va_cwS 2 hts (lw_S q616 q521 q87 q522) rfl rfl rfl (by decide +kernel) ⟨Nat.le_of_ble_eq_true rfl, Nat.le_of_ble_eq_true rfl⟩) (g_preS hG) rfl rfl hl.1 rfl (lv_room (Nat.le_of_ble_eq_true rfl)) dX3_says_229 ⟨Nat.le_of_ble_eq_true rfl, Nat.le_of_ble_eq_true rfl⟩) hG (fun F_3 V_4 ws_ H locs hp hG => ?_)
  obtain ⟨rfl, rfl, rfl⟩ := hp
  have hG : gW X F V (Z) s H locs := hG
  refine lv_iload_n hx hb dX3_says_232 rfl (lv_at hl 0 rfl) ?_
  refine vx_ret ?_
  exact g_iret hx hb hr hlocks hG (⟨rfl, rfl, rfl, rfl⟩) ⟨Nat.le_of_ble_eq_true rfl, Nat.le_of_ble_eq_true rfl⟩ dX3_says_233

