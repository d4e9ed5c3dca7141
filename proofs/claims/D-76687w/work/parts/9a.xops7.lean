set_option maxRecDepth 100000
section XS7
variable {X : gX} {F G : gF} {V U : gV} {x : Nat} {a : aS} {sa rf tr tb kl wa rv rk st : Nat} {sh ra la ma : Nat → Nat} {im : Option Nat}
/-- another trace -/
theorem xS.setT {t : List Int} (h : xS X F V x a sa rf tr tb kl wa rv rk st sh ra la ma im) (e : ∀ r, r ≠ 2 → r ≠ 3 → U r = V r) (hT : xTr X U tr tb t) : xS X F U x (aSetT a t) sa rf tr tb kl wa rv rk st sh ra la ma im := by
  obtain ⟨h0, h1, ⟨g, h2, h2'⟩, h3, h4, h5, h6, h7⟩ := h
  exact ⟨(e 0 (by omega) (by omega)).trans h0, h1, ⟨g, (e 1 (by omega) (by omega)).trans h2, h2'⟩, hT, h4, h5.cg (fun r r1 r2 => e r (by omega) (by omega)), h6.cg (fun r r1 r2 => e r (by omega) (by omega)), fun i hi => (h7 i hi).cg ⟨e _ (by omega) (by omega), e _ (by omega) (by omega)⟩⟩
/-- the imaged world -/
theorem xS.setI {wi : Nat} {rvi rki sti : Nat} {rai lai mai : Nat → Nat} (h : xS X F V x a sa rf tr tb kl wa rv rk st sh ra la ma im) (e : ∀ r, r ≠ 0 → (r < 8 ∨ 12 ≤ r) → U r = V r) (h0 : U 0 = some (x, oB 0 [.ref sa, .ref rf, .ref tr, .ref kl, .ref wa, .ref wi, .int (zI (aFa a))])) (hW : xWd X F U 8 (aWd a) wi rvi rki sti rai lai mai) : xS X F U x (aSetI a) sa rf tr tb kl wa rv rk st sh ra la ma (some wi) := by
  obtain ⟨-, h1, ⟨g, h2, h2'⟩, h3, h4, h5, h6, h7⟩ := h
  exact ⟨h0, h1, ⟨g, (e 1 (by omega) (by omega)).trans h2, h2'⟩, h3.cg ⟨e 2 (by omega) (by omega), e 3 (by omega) (by omega)⟩, h4, h5.cg (fun r r1 r2 => e r (by omega) (by omega)), ⟨wi, rvi, rki, sti, rai, lai, mai, rfl, hW⟩, fun i hi => (h7 i hi).cg ⟨e _ (by omega) (by omega), e _ (by omega) (by omega)⟩⟩
end XS7
set_option maxHeartbeats 500000 in
theorem metX0_seed {l : Launch} {X : gX} {F : gF} {V : gV} {Z : va_W} {x sa rf tr tb kl wa rv rk st : Nat} {sh ra la ma : Nat → Nat} {im : Option Nat} {a : aS} (hS : xS X F V x a sa rf tr tb kl wa rv rk st sh ra la ma im) (hA : aOK a) {z : Int32} : Met l yX0_seed (ws_ yX0_seed cX0_seed 3 (some FieldType.int)) ({ frames := 0, cells := 0, slots := 0, locals := 0 }) (gP X F V (Z) [.ref x, .int z]) (gQi X (fun u G U ws => gLe F G ∧ u = (opSeed a z).1 ∧ xX X G U x (opSeed a z).2 ∧ Z = ws)) 0 0 (gA X) := by
  refine Met.g (by decide) (Nat.le_of_ble_eq_true rfl) ?_
  intro p e s m below meth c ls hx hb hr hts hown hlocks hml hin hG hl
  have hl : lv_has ls 3 [(0, .ref x), (1, .int z)] := hl
  have hSA := hS
  obtain ⟨hx0, ⟨fs9, hx1, hsh⟩, ⟨gr9, hx2, hgr⟩, hx3, hx4, hW, hx6, hx7⟩ := hSA
  have hSA := hS
  have hK := hA.w
  have hNN := hK.n
  have hMM := hK.m
  obtain ⟨hw0, ⟨fR, hw1, hwR⟩, ⟨fM, hw2, hwM⟩, ⟨fS, hw3, hwS⟩, hR, hMk⟩ := id hW
  have hw0 : V 4 = some (wa, oB 2 [.int (zI (wN (aWd a) : Int)), .int (zI (wM (aWd a) : Int)), .int (zI (wRun (aWd a) : Int)), .int (zI (wNeed (aWd a) : Int)), .int (zI (wMar (aWd a) : Int)), .int (wSeed (aWd a)), .ref rv, .ref rk, .ref st]) := hw0
  have hw1 : V 5 = some (rv, aR (gT X 7) 16 fR) := hw1
  have hw2 : V 6 = some (rk, aR (gT X 8) 16 fM) := hw2
  have hw3 : V 7 = some (st, aI (gT X 5) 16 fS) := hw3
  refine lv_aload_n hx hb dX0_seed_0 rfl (lv_at hl 0 rfl) ?_
  refine g_get (ci := 0) hx hb hts in_X0 hown hG (hG.vo hx0) rfl 4 (Nat.le_of_ble_eq_true rfl) (hts _ q388) (fun _ h9 => h9) rfl dX0_seed_1 ?_
  refine g_get (ci := 2) hx hb hts in_X2 hown hG (hG.vo hw0) rfl 5 (Nat.le_of_ble_eq_true rfl) (hts _ q347) (fun _ h9 => h9) rfl dX0_seed_4 ?_
  refine lv_istore_n (lv' := [(2, .int (wSeed (aWd a))), (0, .ref x), (1, .int z)]) hx hb dX0_seed_7 rfl hl (by decide) rfl (fun ls hl => ?_)
  refine lv_aload_n hx hb dX0_seed_8 rfl (lv_at hl 1 rfl) ?_
  refine g_get (ci := 0) hx hb hts in_X0 hown hG (hG.vo hx0) rfl 4 (Nat.le_of_ble_eq_true rfl) (hts _ q388) (fun _ h9 => h9) rfl dX0_seed_9 ?_
  refine lv_iload_n hx hb dX0_seed_12 rfl (lv_at hl 2 rfl) ?_
  refine g_putV (ci := 2) hx hb hts in_X2 tyX2 tyX2_ok nmX2 hown hG hw0 rfl 5 (Nat.le_of_ble_eq_true rfl) (hts _ q347) (fun _ h9 => h9) rfl (tyX2_ok 5 (Nat.le_of_ble_eq_true rfl)) rfl rfl (Nat.le_of_ble_eq_true rfl) dX0_seed_13 (fun H locs (hG : gW X F (va_up V 4 (some (wa, oB 2 [.int (zI (wN (aWd a) : Int)), .int (zI (wM (aWd a) : Int)), .int (zI (wRun (aWd a) : Int)), .int (zI (wNeed (aWd a) : Int)), .int (zI (wMar (aWd a) : Int)), .int z, .ref rv, .ref rk, .ref st]))) (Z) s H locs) => ?_)
  have hx0 : (va_up V 4 (some (wa, oB 2 [.int (zI (wN (aWd a) : Int)), .int (zI (wM (aWd a) : Int)), .int (zI (wRun (aWd a) : Int)), .int (zI (wNeed (aWd a) : Int)), .int (zI (wMar (aWd a) : Int)), .int z, .ref rv, .ref rk, .ref st]))) 0 = some (x, oB 0 [.ref sa, .ref rf, .ref tr, .ref kl, .ref wa, va_rf im, .int (zI (aFa a))]) := (vun (by decide)).trans hx0
  have hx2 : (va_up V 4 (some (wa, oB 2 [.int (zI (wN (aWd a) : Int)), .int (zI (wM (aWd a) : Int)), .int (zI (wRun (aWd a) : Int)), .int (zI (wNeed (aWd a) : Int)), .int (zI (wMar (aWd a) : Int)), .int z, .ref rv, .ref rk, .ref st]))) 1 = some (rf, aI (gT X 0) 8 gr9) := (vun (by decide)).trans hx2
  have hw0 : (va_up V 4 (some (wa, oB 2 [.int (zI (wN (aWd a) : Int)), .int (zI (wM (aWd a) : Int)), .int (zI (wRun (aWd a) : Int)), .int (zI (wNeed (aWd a) : Int)), .int (zI (wMar (aWd a) : Int)), .int z, .ref rv, .ref rk, .ref st]))) 4 = some (wa, oB 2 [.int (zI (wN (aWd a) : Int)), .int (zI (wM (aWd a) : Int)), .int (zI (wRun (aWd a) : Int)), .int (zI (wNeed (aWd a) : Int)), .int (zI (wMar (aWd a) : Int)), .int z, .ref rv, .ref rk, .ref st]) := vus
  have hw1 : (va_up V 4 (some (wa, oB 2 [.int (zI (wN (aWd a) : Int)), .int (zI (wM (aWd a) : Int)), .int (zI (wRun (aWd a) : Int)), .int (zI (wNeed (aWd a) : Int)), .int (zI (wMar (aWd a) : Int)), .int z, .ref rv, .ref rk, .ref st]))) 5 = some (rv, aR (gT X 7) 16 fR) := (vun (by decide)).trans hw1
  have hw2 : (va_up V 4 (some (wa, oB 2 [.int (zI (wN (aWd a) : Int)), .int (zI (wM (aWd a) : Int)), .int (zI (wRun (aWd a) : Int)), .int (zI (wNeed (aWd a) : Int)), .int (zI (wMar (aWd a) : Int)), .int z, .ref rv, .ref rk, .ref st]))) 6 = some (rk, aR (gT X 8) 16 fM) := (vun (by decide)).trans hw2
  have hw3 : (va_up V 4 (some (wa, oB 2 [.int (zI (wN (aWd a) : Int)), .int (zI (wM (aWd a) : Int)), .int (zI (wRun (aWd a) : Int)), .int (zI (wNeed (aWd a) : Int)), .int (zI (wMar (aWd a) : Int)), .int z, .ref rv, .ref rk, .ref st]))) 7 = some (st, aI (gT X 5) 16 fS) := (vun (by decide)).trans hw3
  refine lv_iload_n hx hb dX0_seed_16 rfl (lv_at hl 0 rfl) ?_
  have hW9 : xWd X F (va_up V 4 (some (wa, oB 2 [.int (zI (wN (aWd a) : Int)), .int (zI (wM (aWd a) : Int)), .int (zI (wRun (aWd a) : Int)), .int (zI (wNeed (aWd a) : Int)), .int (zI (wMar (aWd a) : Int)), .int z, .ref rv, .ref rk, .ref st]))) 4 (wSeedTo (aWd a) z) wa rv rk st ra la ma := ⟨hw0, ⟨fR, hw1, hwR⟩, ⟨fM, hw2, hwM⟩, ⟨fS, hw3, hwS⟩, hR, hMk⟩
  exact g_iret hx hb hr hlocks hG (⟨gLe.rfl (V := V), rfl, (hS.setW hA (fun r9 h8 h9 => va_up_ne _ _ (by omega)) hW9 (fun _ _ => rfl)).ex, rfl⟩) ⟨Nat.le_of_ble_eq_true rfl, Nat.le_of_ble_eq_true rfl⟩ dX0_seed_17

set_option maxHeartbeats 500000 in
theorem metX0_trace {l : Launch} {X : gX} {F : gF} {V : gV} {Z : va_W} {x sa rf tr tb kl wa rv rk st : Nat} {sh ra la ma : Nat → Nat} {im : Option Nat} {a : aS} (hS : xS X F V x a sa rf tr tb kl wa rv rk st sh ra la ma im) (hA : aOK a) {i : Int} (hri : (-2147483648 ≤ i ∧ i < 2147483648)) : Met l yX0_trace (ws_ yX0_trace cX0_trace 2 (some FieldType.int)) ({ frames := 1, cells := 0, slots := 0, locals := 25 }) (gP X F V (Z) [.ref x, .int (zI i)]) (gQi X (fun u G U ws => gLe F G ∧ u = zI (opTrace a i) ∧ xX X G U x a ∧ Z = ws)) 0 0 (gA X) := by
  refine Met.g (by decide) (Nat.le_of_ble_eq_true rfl) ?_
  intro p e s m below meth c ls hx hb hr hts hown hlocks hml hin hG hl
  have hl : lv_has ls 2 [(0, .ref x), (1, .int (zI i))] := hl
  have hSA := hS
  obtain ⟨hx0, ⟨fs9, hx1, hsh⟩, ⟨gr9, hx2, hgr⟩, hx3, hx4, hW, hx6, hx7⟩ := hSA
  have hSA := hS
  have hK := hA.w
  have hNN := hK.n
  have hMM := hK.m
  obtain ⟨ht2, htl, ft, ht3, htf⟩ := hx3
  refine lv_iload_n hx hb dX0_trace_0 rfl (lv_at hl 1 rfl) ?_
  refine g_i2l hx hb dX0_trace_1 (by omega) ?_
  refine lv_lconst (v := zL 0) hx hb dX0_trace_2 (by decide +kernel) ?_
  refine lv_aload_n hx hb dX0_trace_3 rfl (lv_at hl 0 rfl) ?_
  refine g_get (ci := 0) hx hb hts in_X0 hown hG (hG.vo hx0) rfl 2 (Nat.le_of_ble_eq_true rfl) (hts _ q386) (fun _ h9 => h9) rfl dX0_trace_4 ?_
  refine g_get (ci := 1) hx hb hts in_X1 hown hG (hG.vo ht2) rfl 1 (Nat.le_of_ble_eq_true rfl) (hts _ q183) (fun _ h9 => h9) rfl dX0_trace_7 ?_
  refine lv_bipush (v := zI 20) hx hb dX0_trace_10 (by decide +kernel) ?_
  refine g_min hx hb (hml.trans hl.1.symm) hts hown (hts _ q2546) ⟨Nat.le_of_ble_eq_true rfl, Nat.le_of_ble_eq_true rfl, Nat.le_of_ble_eq_true rfl, Nat.le_of_ble_eq_true rfl⟩ (by omega) dX0_trace_12 ?_
  refine lv_iconst (v := zI 1) hx hb dX0_trace_15 (by decide +kernel) ?_
  refine g_isub hx hb dX0_trace_16 ?_
  refine g_i2l hx hb dX0_trace_17 (by omega) ?_
  by_cases hi9 : 0 ≤ i ∧ i < ((aTr a).length : Nat)
  · obtain ⟨i1, rfl⟩ : ∃ z : Nat, i = (z : Int) := ⟨i.toNat, by omega⟩
    refine g_ci (va_runS (As := [.long (zL (i1 : Int)), .long (zL 0), .long (zL ((min ((aTr a).length : Int) 20) - 1))]) (rest := []) ⟨hx, hb, hml, hown, hts⟩ (metX0_in (a9 := (i1 : Int)) (b9 := 0) (c9 := ((min ((aTr a).length : Int) 20) - 1)) (by omega)) (va_cwS 3 hts (lw_S q524 q525 q87 q526) rfl rfl rfl (by decide +kernel) ⟨Nat.le_of_ble_eq_true rfl, Nat.le_of_ble_eq_true rfl⟩) (g_preS hG) rfl rfl hl.1 rfl (lv_room (Nat.le_of_ble_eq_true rfl)) dX0_trace_18 ⟨Nat.le_of_ble_eq_true rfl, Nat.le_of_ble_eq_true rfl⟩) hG (fun r_1 F_2 V_3 ws_ H locs hp hG => ?_)
    obtain ⟨rfl, rfl, rfl, rfl⟩ := hp
    have hG : gW X F V (Z) s H locs := hG
    refine g_topz (y := 1) (by rw [decide_eq_true (by omega)]; rfl) ?_
    refine g_eq (tgt := 36) hx hb dX0_trace_21 (by decide) (by decide) (fun hq => ?_) (fun hq => ?_)
    · exfalso; omega
    · refine lv_aload_n hx hb dX0_trace_24 rfl (lv_at hl 0 rfl) ?_
      refine g_get (ci := 0) hx hb hts in_X0 hown hG (hG.vo hx0) rfl 2 (Nat.le_of_ble_eq_true rfl) (hts _ q386) (fun _ h9 => h9) rfl dX0_trace_25 ?_
      refine g_get (ci := 1) hx hb hts in_X1 hown hG (hG.vo ht2) rfl 0 (Nat.le_of_ble_eq_true rfl) (hts _ q181) (fun _ h9 => h9) rfl dX0_trace_28 ?_
      refine lv_iload_n hx hb dX0_trace_31 rfl (lv_at hl 1 rfl) ?_
      refine g_iald hx hb hG (hG.vo ht3) i1 ⟨rfl, by omega, by omega⟩ (v := zI ((aTr a).getD i1 0)) (htf i1 (by omega)) dX0_trace_32 ?_
      refine lv_goto (tgt := 37) hx hb dX0_trace_33 (by decide) ?_
      exact g_iret hx hb hr hlocks hG (by have e9 : opTrace a (i1 : Int) = (aTr a).getD i1 0 := (by unfold opTrace; rw [if_pos (by omega)]; rfl); rw [e9]; exact ⟨gLe.rfl (V := V), rfl, hS.ex, rfl⟩) ⟨Nat.le_of_ble_eq_true rfl, Nat.le_of_ble_eq_true rfl⟩ dX0_trace_37
  · refine g_ci (va_runS (As := [.long (zL i), .long (zL 0), .long (zL ((min ((aTr a).length : Int) 20) - 1))]) (rest := []) ⟨hx, hb, hml, hown, hts⟩ (metX0_in (a9 := i) (b9 := 0) (c9 := ((min ((aTr a).length : Int) 20) - 1)) (by omega)) (va_cwS 3 hts (lw_S q524 q525 q87 q526) rfl rfl rfl (by decide +kernel) ⟨Nat.le_of_ble_eq_true rfl, Nat.le_of_ble_eq_true rfl⟩) (g_preS hG) rfl rfl hl.1 rfl (lv_room (Nat.le_of_ble_eq_true rfl)) dX0_trace_18 ⟨Nat.le_of_ble_eq_true rfl, Nat.le_of_ble_eq_true rfl⟩) hG (fun r_4 F_5 V_6 ws_ H locs hp hG => ?_)
    obtain ⟨rfl, rfl, rfl, rfl⟩ := hp
    have hG : gW X F V (Z) s H locs := hG
    refine g_topz (y := 0) (by rw [decide_eq_false (by omega)]; rfl) ?_
    refine g_eq (tgt := 36) hx hb dX0_trace_21 (by decide) (by decide) (fun hq => ?_) (fun hq => ?_)
    · refine lv_iconst (v := zI (-1)) hx hb dX0_trace_36 (by decide +kernel) ?_
      exact g_iret hx hb hr hlocks hG (by have e9 : opTrace a i = -1 := (by unfold opTrace; rw [if_neg (by omega)]); rw [e9]; exact ⟨gLe.rfl (V := V), rfl, hS.ex, rfl⟩) ⟨Nat.le_of_ble_eq_true rfl, Nat.le_of_ble_eq_true rfl⟩ dX0_trace_37
    · exfalso; omega

set_option maxHeartbeats 500000 in
theorem metX0_act {l : Launch} {X : gX} {F : gF} {V : gV} {Z : va_W} {x sa rf tr tb kl wa rv rk st : Nat} {sh ra la ma : Nat → Nat} {im : Option Nat} {a : aS} (hS : xS X F V x a sa rf tr tb kl wa rv rk st sh ra la ma im) (hA : aOK a) {v k z : Int} (hrv : (-2147483648 ≤ v ∧ v < 2147483648)) (hrk : (-2147483648 ≤ k ∧ k < 2147483648)) (hrz : (-2147483648 ≤ z ∧ z < 2147483648)) : Met l yX0_act (ws_ yX0_act cX0_act 5 (some FieldType.int)) ({ frames := 8, cells := 0, slots := 0, locals := 176 }) (gP X F V (Z) [.ref x, .int (zI v), .int (zI k), .int (zI z)]) (gQi X (fun u G U ws => gLe F G ∧ u = (opAct a v k z).1 ∧ xX X G U x (opAct a v k z).2 ∧ Z = ws)) 0 0 (gA X) := by
  refine Met.g (by decide) (Nat.le_of_ble_eq_true rfl) ?_
  intro p e s m below meth c ls hx hb hr hts hown hlocks hml hin hG hl
  have hl : lv_has ls 5 [(0, .ref x), (1, .int (zI v)), (2, .int (zI k)), (3, .int (zI z))] := hl
  have hSA := hS
  obtain ⟨hx0, ⟨fs9, hx1, hsh⟩, ⟨gr9, hx2, hgr⟩, hx3, hx4, hW, hx6, hx7⟩ := hSA
  have hSA := hS
  have hK := hA.w
  have hNN := hK.n
  have hMM := hK.m
  obtain ⟨hw0, ⟨fR, hw1, hwR⟩, ⟨fM, hw2, hwM⟩, ⟨fS, hw3, hwS⟩, hR, hMk⟩ := id hW
  have hw0 : V 4 = some (wa, oB 2 [.int (zI (wN (aWd a) : Int)), .int (zI (wM (aWd a) : Int)), .int (zI (wRun (aWd a) : Int)), .int (zI (wNeed (aWd a) : Int)), .int (zI (wMar (aWd a) : Int)), .int (wSeed (aWd a)), .ref rv, .ref rk, .ref st]) := hw0
  have hw1 : V 5 = some (rv, aR (gT X 7) 16 fR) := hw1
  have hw2 : V 6 = some (rk, aR (gT X 8) 16 fM) := hw2
  have hw3 : V 7 = some (st, aI (gT X 5) 16 fS) := hw3
  obtain ⟨ht2, htl, ft, ht3, htf⟩ := hx3
  refine lv_aload_n hx hb dX0_act_0 rfl (lv_at hl 0 rfl) ?_
  refine g_get (ci := 0) hx hb hts in_X0 hown hG (hG.vo hx0) rfl 2 (Nat.le_of_ble_eq_true rfl) (hts _ q386) (fun _ h9 => h9) rfl dX0_act_1 ?_
  refine lv_iconst (v := zI 0) hx hb dX0_act_4 (by decide +kernel) ?_
  refine g_putV (ci := 1) hx hb hts in_X1 tyX1 tyX1_ok nmX1 hown hG ht2 rfl 1 (Nat.le_of_ble_eq_true rfl) (hts _ q183) (fun _ h9 => h9) rfl (tyX1_ok 1 (Nat.le_of_ble_eq_true rfl)) rfl rfl (Nat.le_of_ble_eq_true rfl) dX0_act_5 (fun H locs (hG : gW X F (va_up V 2 (some (tr, oB 1 [.ref tb, .int (zI 0)]))) (Z) s H locs) => ?_)
  have hx0 : (va_up V 2 (some (tr, oB 1 [.ref tb, .int (zI 0)]))) 0 = some (x, oB 0 [.ref sa, .ref rf, .ref tr, .ref kl, .ref wa, va_rf im, .int (zI (aFa a))]) := (vun (by decide)).trans hx0
  have hx2 : (va_up V 2 (some (tr, oB 1 [.ref tb, .int (zI 0)]))) 1 = some (rf, aI (gT X 0) 8 gr9) := (vun (by decide)).trans hx2
  have hw0 : (va_up V 2 (some (tr, oB 1 [.ref tb, .int (zI 0)]))) 4 = some (wa, oB 2 [.int (zI (wN (aWd a) : Int)), .int (zI (wM (aWd a) : Int)), .int (zI (wRun (aWd a) : Int)), .int (zI (wNeed (aWd a) : Int)), .int (zI (wMar (aWd a) : Int)), .int (wSeed (aWd a)), .ref rv, .ref rk, .ref st]) := (vun (by decide)).trans hw0
  have hw1 : (va_up V 2 (some (tr, oB 1 [.ref tb, .int (zI 0)]))) 5 = some (rv, aR (gT X 7) 16 fR) := (vun (by decide)).trans hw1
  have hw2 : (va_up V 2 (some (tr, oB 1 [.ref tb, .int (zI 0)]))) 6 = some (rk, aR (gT X 8) 16 fM) := (vun (by decide)).trans hw2
  have hw3 : (va_up V 2 (some (tr, oB 1 [.ref tb, .int (zI 0)]))) 7 = some (st, aI (gT X 5) 16 fS) := (vun (by decide)).trans hw3
  have ht2 : (va_up V 2 (some (tr, oB 1 [.ref tb, .int (zI 0)]))) 2 = some (tr, oB 1 [.ref tb, .int (zI 0)]) := vus
  have ht3 : (va_up V 2 (some (tr, oB 1 [.ref tb, .int (zI 0)]))) 3 = some (tb, aI (gT X 0) 20 ft) := (vun (by decide)).trans ht3
  refine lv_aload_n hx hb dX0_act_8 rfl (lv_at hl 0 rfl) ?_
  refine g_get (ci := 0) hx hb hts in_X0 hown hG (hG.vo hx0) rfl 4 (Nat.le_of_ble_eq_true rfl) (hts _ q388) (fun _ h9 => h9) rfl dX0_act_9 ?_
  refine lv_iload_n hx hb dX0_act_12 rfl (lv_at hl 1 rfl) ?_
  have hW2 : xWd X F (va_up V 2 (some (tr, oB 1 [.ref tb, .int (zI 0)]))) 4 (aWd a) wa rv rk st ra la ma := hW.cg (fun r9 h8 h9 => va_up_ne _ _ (by omega))
  by_cases hcv : 0 ≤ v ∧ v < wM (aWd a)
  · obtain ⟨v1, rfl⟩ : ∃ z : Nat, v = (z : Int) := ⟨v.toNat, by omega⟩
    refine g_ci (va_runV (As := [.int (zI (v1 : Int))]) (rest := []) ⟨hx, hb, hml, hown, hts⟩ (metX2_isRemark hW2 hK (by omega)) (cwV 1 hts (lw_V q704 q705 q706 q100 q707) rfl rfl rfl (by decide +kernel) ⟨Nat.le_of_ble_eq_true rfl, Nat.le_of_ble_eq_true rfl⟩) (g_preV hG (g_recv hG (hG.vo hw0) (ci := 2) rfl)) rfl rfl hl.1 rfl (lv_room (Nat.le_of_ble_eq_true rfl)) dX0_act_13 ⟨Nat.le_of_ble_eq_true rfl, Nat.le_of_ble_eq_true rfl⟩) hG (fun r_1 F_2 V_3 ws_ H locs hp hG => ?_)
    obtain ⟨rfl, rfl, rfl, rfl⟩ := hp
    have hG : gW X F (va_up V 2 (some (tr, oB 1 [.ref tb, .int (zI 0)]))) (Z) s H locs := hG
    refine g_topz (y := 1) (by rw [decide_eq_true (by omega)]; rfl) ?_
    refine g_ne (tgt := 21) hx hb dX0_act_16 (by decide) (by decide) (fun hq => ?_) (fun hq => ?_)
    · refine lv_aload_n hx hb dX0_act_21 rfl (lv_at hl 0 rfl) ?_
      refine g_get (ci := 0) hx hb hts in_X0 hown hG (hG.vo hx0) rfl 4 (Nat.le_of_ble_eq_true rfl) (hts _ q388) (fun _ h9 => h9) rfl dX0_act_22 ?_
      refine g_get (ci := 2) hx hb hts in_X2 hown hG (hG.vo hw0) rfl 7 (Nat.le_of_ble_eq_true rfl) (hts _ q351) (fun _ h9 => h9) rfl dX0_act_25 ?_
      refine lv_iload_n hx hb dX0_act_28 rfl (lv_at hl 1 rfl) ?_
      refine g_aald hx hb hG 8 rfl rfl (hG.vo hw2) v1 ⟨rfl, by omega, by omega⟩ (v := .ref (ma v1)) (congrArg va_rf (hwM v1 (by omega))) dX0_act_29 ?_
      have hrkv1 := hK.rk (m := v1) (by omega)
      have hrmv1 := hMk v1 (by omega)
      have hkdv1 := hrkv1.1
      refine lv_astore (lv' := [(4, .ref (ma v1)), (0, .ref x), (1, .int (zI (v1 : Int))), (2, .int (zI k)), (3, .int (zI z))]) hx hb dX0_act_30 hl (by decide) rfl (fun ls hl => ?_)
      refine lv_iload_n hx hb dX0_act_32 rfl (lv_at hl 3 rfl) ?_
      rcases (show k = 0 ∨ k = 1 ∨ k = 2 ∨ (k < 0 ∨ 2 < k) by omega) with hk | hk | hk | hk
      · refine g_tin hx hb 0 (off := 27) (tgt := 60) dX0_act_33 hk (by decide) rfl (by decide) ?_
        have hs_4 : 0 = k := by omega
        subst hs_4
        rcases (show rKind (wRk (aWd a) v1) = 0 ∨ rKind (wRk (aWd a) v1) = 1 ∨ rKind (wRk (aWd a) v1) = 2 ∨ rKind (wRk (aWd a) v1) = 3 ∨ rKind (wRk (aWd a) v1) = 4 ∨ rKind (wRk (aWd a) v1) = 5 ∨ rKind (wRk (aWd a) v1) = 6 by omega) with hd9 | hd9 | hd9 | hd9 | hd9 | hd9 | hd9
        · rw [hd9] at hrmv1
          have hT0 : xTr X (va_up V 2 (some (tr, oB 1 [.ref tb, .int (zI 0)]))) tr tb [] := ⟨ht2, by decide, ft, ht3, fun i hi => absurd hi (Nat.not_lt_zero _)⟩
          refine lv_aload hx hb dX0_act_60 (lv_at hl 0 rfl) ?_
          refine lv_iload_n hx hb dX0_act_62 rfl (lv_at hl 4 rfl) ?_
          refine lv_aload_n hx hb dX0_act_63 rfl (lv_at hl 1 rfl) ?_
          refine g_get (ci := 0) hx hb hts in_X0 hown hG (hG.vo hx0) rfl 2 (Nat.le_of_ble_eq_true rfl) (hts _ q386) (fun _ h9 => h9) rfl dX0_act_64 ?_
          refine g_ci (va_runV (As := [.int (zI z), .ref tr]) (rest := []) ⟨hx, hb, hml, hown, hts⟩ (metX16_pointing_k0 hrmv1 hT0 (by decide)) (cwV 2 hts (lw_V q3182 q3183 q3184 q145 q3199) rfl rfl rfl (by decide +kernel) ⟨Nat.le_of_ble_eq_true rfl, Nat.le_of_ble_eq_true rfl⟩) (g_preV hG (g_recv hG (hG.fz (show F.1 (ma v1) = some (oB 14 _) from hrmv1)) (ci := 14) rfl)) rfl rfl hl.1 rfl (lv_room (Nat.le_of_ble_eq_true rfl)) dX0_act_67 ⟨Nat.le_of_ble_eq_true rfl, Nat.le_of_ble_eq_true rfl⟩) hG (fun r_5 F_6 V_7 ws_ H locs hp hG => ?_)
          obtain ⟨rfl, rfl, hT1, hV1, rfl⟩ := hp
          have hG : gW X F V_7 (Z) s H locs := hG
          exact g_iret hx hb hr hlocks hG (by have e9 : opAct a (v1 : Int) 0 z = (zI (z + (v1 : Int)), aSetT a [10]) := (by unfold opAct; rw [if_neg (by omega), if_pos (by decide)]; show (zI (ptV (v1 : Int) (rBy (wRk (aWd a) v1) : Nat) ((rKind (wRk (aWd a) v1) : Nat) : Int) z), aSetT a (ptT ((rKind (wRk (aWd a) v1) : Nat) : Int))) = _; rw [hd9]; rfl); rw [e9]; exact ⟨gLe.rfl (V := V), rfl, (hS.setT (fun r9 h8 h9 => (hV1 r9 h8 h9).trans (va_up_ne _ _ h8)) hT1).ex, rfl⟩) ⟨Nat.le_of_ble_eq_true rfl, Nat.le_of_ble_eq_true rfl⟩ dX0_act_70
        · rw [hd9] at hrmv1
          have hT0 : xTr X (va_up V 2 (some (tr, oB 1 [.ref tb, .int (zI 0)]))) tr tb [] := ⟨ht2, by decide, ft, ht3, fun i hi => absurd hi (Nat.not_lt_zero _)⟩
          refine lv_aload hx hb dX0_act_60 (lv_at hl 0 rfl) ?_
          refine lv_iload_n hx hb dX0_act_62 rfl (lv_at hl 4 rfl) ?_
          refine lv_aload_n hx hb dX0_act_63 rfl (lv_at hl 1 rfl) ?_
          refine g_get (ci := 0) hx hb hts in_X0 hown hG (hG.vo hx0) rfl 2 (Nat.le_of_ble_eq_true rfl) (hts _ q386) (fun _ h9 => h9) rfl dX0_act_64 ?_
          refine g_ci (va_runU (C := "LineRemarks$Point") (As := [.int (zI z), .ref tr]) (rest := []) ⟨hx, hb, hml, hown, hts⟩ (metX17_pointing_k1 hrmv1 hT0 (by decide)) (va_cwO 2 hts (lw_O q3182 q3185 q3183 q3206 q3195 q146 q3196) rfl rfl rfl q3199 (by decide +kernel) ⟨Nat.le_of_ble_eq_true rfl, Nat.le_of_ble_eq_true rfl⟩) (g_preV hG (g_recv hG (hG.fz (show F.1 (ma v1) = some (oB 15 _) from hrmv1)) (ci := 15) rfl)) rfl rfl hl.1 rfl (lv_room (Nat.le_of_ble_eq_true rfl)) dX0_act_67 ⟨Nat.le_of_ble_eq_true rfl, Nat.le_of_ble_eq_true rfl⟩) hG (fun r_8 F_9 V_10 ws_ H locs hp hG => ?_)
          obtain ⟨rfl, rfl, hT1, hV1, rfl⟩ := hp
          have hG : gW X F V_10 (Z) s H locs := hG
          exact g_iret hx hb hr hlocks hG (by have e9 : opAct a (v1 : Int) 0 z = (zI (z + (v1 : Int) + (rBy (wRk (aWd a) v1) : Int)), aSetT a [20, 10]) := (by unfold opAct; rw [if_neg (by omega), if_pos (by decide)]; show (zI (ptV (v1 : Int) (rBy (wRk (aWd a) v1) : Nat) ((rKind (wRk (aWd a) v1) : Nat) : Int) z), aSetT a (ptT ((rKind (wRk (aWd a) v1) : Nat) : Int))) = _; rw [hd9]; rfl); rw [e9]; exact ⟨gLe.rfl (V := V), rfl, (hS.setT (fun r9 h8 h9 => (hV1 r9 h8 h9).trans (va_up_ne _ _ h8)) hT1).ex, rfl⟩) ⟨Nat.le_of_ble_eq_true rfl, Nat.le_of_ble_eq_true rfl⟩ dX0_act_70
        · rw [hd9] at hrmv1
          have hT0 : xTr X (va_up V 2 (some (tr, oB 1 [.ref tb, .int (zI 0)]))) tr tb [] := ⟨ht2, by decide, ft, ht3, fun i hi => absurd hi (Nat.not_lt_zero _)⟩
          refine lv_aload hx hb dX0_act_60 (lv_at hl 0 rfl) ?_
          refine lv_iload_n hx hb dX0_act_62 rfl (lv_at hl 4 rfl) ?_
          refine lv_aload_n hx hb dX0_act_63 rfl (lv_at hl 1 rfl) ?_
          refine g_get (ci := 0) hx hb hts in_X0 hown hG (hG.vo hx0) rfl 2 (Nat.le_of_ble_eq_true rfl) (hts _ q386) (fun _ h9 => h9) rfl dX0_act_64 ?_
          refine g_ci (va_runU (C := "LineRemarks$Block") (As := [.int (zI z), .ref tr]) (rest := []) ⟨hx, hb, hml, hown, hts⟩ (metX16_pointing_k2 hrmv1 hT0 (by decide)) (va_cwU 2 hts (lw_U q3182 q3185 q3186 q3183 q145 q3199) rfl rfl rfl rfl (by decide +kernel) ⟨Nat.le_of_ble_eq_true rfl, Nat.le_of_ble_eq_true rfl⟩) (g_preV hG (g_recv hG (hG.fz (show F.1 (ma v1) = some (oB 16 _) from hrmv1)) (ci := 16) rfl)) rfl rfl hl.1 rfl (lv_room (Nat.le_of_ble_eq_true rfl)) dX0_act_67 ⟨Nat.le_of_ble_eq_true rfl, Nat.le_of_ble_eq_true rfl⟩) hG (fun r_11 F_12 V_13 ws_ H locs hp hG => ?_)
          obtain ⟨rfl, rfl, hT1, hV1, rfl⟩ := hp
          have hG : gW X F V_13 (Z) s H locs := hG
          exact g_iret hx hb hr hlocks hG (by have e9 : opAct a (v1 : Int) 0 z = (zI (z + (v1 : Int)), aSetT a [10]) := (by unfold opAct; rw [if_neg (by omega), if_pos (by decide)]; show (zI (ptV (v1 : Int) (rBy (wRk (aWd a) v1) : Nat) ((rKind (wRk (aWd a) v1) : Nat) : Int) z), aSetT a (ptT ((rKind (wRk (aWd a) v1) : Nat) : Int))) = _; rw [hd9]; rfl); rw [e9]; exact ⟨gLe.rfl (V := V), rfl, (hS.setT (fun r9 h8 h9 => (hV1 r9 h8 h9).trans (va_up_ne _ _ h8)) hT1).ex, rfl⟩) ⟨Nat.le_of_ble_eq_true rfl, Nat.le_of_ble_eq_true rfl⟩ dX0_act_70
        · rw [hd9] at hrmv1
          have hT0 : xTr X (va_up V 2 (some (tr, oB 1 [.ref tb, .int (zI 0)]))) tr tb [] := ⟨ht2, by decide, ft, ht3, fun i hi => absurd hi (Nat.not_lt_zero _)⟩
          refine lv_aload hx hb dX0_act_60 (lv_at hl 0 rfl) ?_
          refine lv_iload_n hx hb dX0_act_62 rfl (lv_at hl 4 rfl) ?_
          refine lv_aload_n hx hb dX0_act_63 rfl (lv_at hl 1 rfl) ?_
          refine g_get (ci := 0) hx hb hts in_X0 hown hG (hG.vo hx0) rfl 2 (Nat.le_of_ble_eq_true rfl) (hts _ q386) (fun _ h9 => h9) rfl dX0_act_64 ?_
          refine g_ci (va_runU (C := "LineRemarks$Caret") (As := [.int (zI z), .ref tr]) (rest := []) ⟨hx, hb, hml, hown, hts⟩ (metX19_pointing_k3 hrmv1 hT0 (by decide)) (va_cwO 2 hts (lw_O q3182 q3185 q3183 q3187 q3188 q148 q3189) rfl rfl rfl q3199 (by decide +kernel) ⟨Nat.le_of_ble_eq_true rfl, Nat.le_of_ble_eq_true rfl⟩) (g_preV hG (g_recv hG (hG.fz (show F.1 (ma v1) = some (oB 17 _) from hrmv1)) (ci := 17) rfl)) rfl rfl hl.1 rfl (lv_room (Nat.le_of_ble_eq_true rfl)) dX0_act_67 ⟨Nat.le_of_ble_eq_true rfl, Nat.le_of_ble_eq_true rfl⟩) hG (fun r_14 F_15 V_16 ws_ H locs hp hG => ?_)
          obtain ⟨rfl, rfl, hT1, hV1, rfl⟩ := hp
          have hG : gW X F V_16 (Z) s H locs := hG
          exact g_iret hx hb hr hlocks hG (by have e9 : opAct a (v1 : Int) 0 z = (zI (z + 1 + (v1 : Int) + (rBy (wRk (aWd a) v1) : Int)), aSetT a [40, 20, 10]) := (by unfold opAct; rw [if_neg (by omega), if_pos (by decide)]; show (zI (ptV (v1 : Int) (rBy (wRk (aWd a) v1) : Nat) ((rKind (wRk (aWd a) v1) : Nat) : Int) z), aSetT a (ptT ((rKind (wRk (aWd a) v1) : Nat) : Int))) = _; rw [hd9]; rfl); rw [e9]; exact ⟨gLe.rfl (V := V), rfl, (hS.setT (fun r9 h8 h9 => (hV1 r9 h8 h9).trans (va_up_ne _ _ h8)) hT1).ex, rfl⟩) ⟨Nat.le_of_ble_eq_true rfl, Nat.le_of_ble_eq_true rfl⟩ dX0_act_70
        · rw [hd9] at hrmv1
          have hT0 : xTr X (va_up V 2 (some (tr, oB 1 [.ref tb, .int (zI 0)]))) tr tb [] := ⟨ht2, by decide, ft, ht3, fun i hi => absurd hi (Nat.not_lt_zero _)⟩
          refine lv_aload hx hb dX0_act_60 (lv_at hl 0 rfl) ?_
          refine lv_iload_n hx hb dX0_act_62 rfl (lv_at hl 4 rfl) ?_
          refine lv_aload_n hx hb dX0_act_63 rfl (lv_at hl 1 rfl) ?_
          refine g_get (ci := 0) hx hb hts in_X0 hown hG (hG.vo hx0) rfl 2 (Nat.le_of_ble_eq_true rfl) (hts _ q386) (fun _ h9 => h9) rfl dX0_act_64 ?_
          refine g_ci (va_runU (C := "LineRemarks$Loose") (As := [.int (zI z), .ref tr]) (rest := []) ⟨hx, hb, hml, hown, hts⟩ (metX20_pointing_k4 hrmv1 hT0 (by decide)) (va_cwO 2 hts (lw_O q3182 q3185 q3183 q3201 q3202 q149 q3203) rfl rfl rfl q3199 (by decide +kernel) ⟨Nat.le_of_ble_eq_true rfl, Nat.le_of_ble_eq_true rfl⟩) (g_preV hG (g_recv hG (hG.fz (show F.1 (ma v1) = some (oB 18 _) from hrmv1)) (ci := 18) rfl)) rfl rfl hl.1 rfl (lv_room (Nat.le_of_ble_eq_true rfl)) dX0_act_67 ⟨Nat.le_of_ble_eq_true rfl, Nat.le_of_ble_eq_true rfl⟩) hG (fun r_17 F_18 V_19 ws_ H locs hp hG => ?_)
          obtain ⟨rfl, rfl, hT1, hV1, rfl⟩ := hp
          have hG : gW X F V_19 (Z) s H locs := hG
          exact g_iret hx hb hr hlocks hG (by have e9 : opAct a (v1 : Int) 0 z = (zI (z + (v1 : Int) - (v1 : Int)), aSetT a [51, 10]) := (by unfold opAct; rw [if_neg (by omega), if_pos (by decide)]; show (zI (ptV (v1 : Int) (rBy (wRk (aWd a) v1) : Nat) ((rKind (wRk (aWd a) v1) : Nat) : Int) z), aSetT a (ptT ((rKind (wRk (aWd a) v1) : Nat) : Int))) = _; rw [hd9]; rfl); rw [e9]; exact ⟨gLe.rfl (V := V), rfl, (hS.setT (fun r9 h8 h9 => (hV1 r9 h8 h9).trans (va_up_ne _ _ h8)) hT1).ex, rfl⟩) ⟨Nat.le_of_ble_eq_true rfl, Nat.le_of_ble_eq_true rfl⟩ dX0_act_70
        · rw [hd9] at hrmv1
          have hT0 : xTr X (va_up V 2 (some (tr, oB 1 [.ref tb, .int (zI 0)]))) tr tb [] := ⟨ht2, by decide, ft, ht3, fun i hi => absurd hi (Nat.not_lt_zero _)⟩
          refine lv_aload hx hb dX0_act_60 (lv_at hl 0 rfl) ?_
          refine lv_iload_n hx hb dX0_act_62 rfl (lv_at hl 4 rfl) ?_
          refine lv_aload_n hx hb dX0_act_63 rfl (lv_at hl 1 rfl) ?_
          refine g_get (ci := 0) hx hb hts in_X0 hown hG (hG.vo hx0) rfl 2 (Nat.le_of_ble_eq_true rfl) (hts _ q386) (fun _ h9 => h9) rfl dX0_act_64 ?_
          refine g_ci (va_runU (C := "LineRemarks$Wall") (As := [.int (zI z), .ref tr]) (rest := []) ⟨hx, hb, hml, hown, hts⟩ (metX16_pointing_k5 hrmv1 hT0 (by decide)) (va_cwU 2 hts (lw_U q3182 q3185 q3212 q3183 q145 q3199) rfl rfl rfl rfl (by decide +kernel) ⟨Nat.le_of_ble_eq_true rfl, Nat.le_of_ble_eq_true rfl⟩) (g_preV hG (g_recv hG (hG.fz (show F.1 (ma v1) = some (oB 19 _) from hrmv1)) (ci := 19) rfl)) rfl rfl hl.1 rfl (lv_room (Nat.le_of_ble_eq_true rfl)) dX0_act_67 ⟨Nat.le_of_ble_eq_true rfl, Nat.le_of_ble_eq_true rfl⟩) hG (fun r_20 F_21 V_22 ws_ H locs hp hG => ?_)
          obtain ⟨rfl, rfl, hT1, hV1, rfl⟩ := hp
          have hG : gW X F V_22 (Z) s H locs := hG
          exact g_iret hx hb hr hlocks hG (by have e9 : opAct a (v1 : Int) 0 z = (zI (z + (v1 : Int)), aSetT a [10]) := (by unfold opAct; rw [if_neg (by omega), if_pos (by decide)]; show (zI (ptV (v1 : Int) (rBy (wRk (aWd a) v1) : Nat) ((rKind (wRk (aWd a) v1) : Nat) : Int) z), aSetT a (ptT ((rKind (wRk (aWd a) v1) : Nat) : Int))) = _; rw [hd9]; rfl); rw [e9]; exact ⟨gLe.rfl (V := V), rfl, (hS.setT (fun r9 h8 h9 => (hV1 r9 h8 h9).trans (va_up_ne _ _ h8)) hT1).ex, rfl⟩) ⟨Nat.le_of_ble_eq_true rfl, Nat.le_of_ble_eq_true rfl⟩ dX0_act_70
        · rw [hd9] at hrmv1
          have hT0 : xTr X (va_up V 2 (some (tr, oB 1 [.ref tb, .int (zI 0)]))) tr tb [] := ⟨ht2, by decide, ft, ht3, fun i hi => absurd hi (Nat.not_lt_zero _)⟩
          refine lv_aload hx hb dX0_act_60 (lv_at hl 0 rfl) ?_
          refine lv_iload_n hx hb dX0_act_62 rfl (lv_at hl 4 rfl) ?_
          refine lv_aload_n hx hb dX0_act_63 rfl (lv_at hl 1 rfl) ?_
          refine g_get (ci := 0) hx hb hts in_X0 hown hG (hG.vo hx0) rfl 2 (Nat.le_of_ble_eq_true rfl) (hts _ q386) (fun _ h9 => h9) rfl dX0_act_64 ?_
          refine g_ci (va_runU (C := "LineRemarks$Tail") (As := [.int (zI z), .ref tr]) (rest := []) ⟨hx, hb, hml, hown, hts⟩ (metX22_pointing_k6 hrmv1 hT0 (by decide)) (va_cwO 2 hts (lw_O q3182 q3185 q3183 q3207 q3208 q151 q3209) rfl rfl rfl q3199 (by decide +kernel) ⟨Nat.le_of_ble_eq_true rfl, Nat.le_of_ble_eq_true rfl⟩) (g_preV hG (g_recv hG (hG.fz (show F.1 (ma v1) = some (oB 20 _) from hrmv1)) (ci := 20) rfl)) rfl rfl hl.1 rfl (lv_room (Nat.le_of_ble_eq_true rfl)) dX0_act_67 ⟨Nat.le_of_ble_eq_true rfl, Nat.le_of_ble_eq_true rfl⟩) hG (fun r_23 F_24 V_25 ws_ H locs hp hG => ?_)
          obtain ⟨rfl, rfl, hT1, hV1, rfl⟩ := hp
          have hG : gW X F V_25 (Z) s H locs := hG
          exact g_iret hx hb hr hlocks hG (by have e9 : opAct a (v1 : Int) 0 z = (zI ((z + 1 + (v1 : Int) + (rBy (wRk (aWd a) v1) : Int)) * 2), aSetT a [70, 40, 20, 10]) := (by unfold opAct; rw [if_neg (by omega), if_pos (by decide)]; show (zI (ptV (v1 : Int) (rBy (wRk (aWd a) v1) : Nat) ((rKind (wRk (aWd a) v1) : Nat) : Int) z), aSetT a (ptT ((rKind (wRk (aWd a) v1) : Nat) : Int))) = _; rw [hd9]; rfl); rw [e9]; exact ⟨gLe.rfl (V := V), rfl, (hS.setT (fun r9 h8 h9 => (hV1 r9 h8 h9).trans (va_up_ne _ _ h8)) hT1).ex, rfl⟩) ⟨Nat.le_of_ble_eq_true rfl, Nat.le_of_ble_eq_true rfl⟩ dX0_act_70
      · refine g_tin hx hb 1 (off := 38) (tgt := 71) dX0_act_33 hk (by decide) rfl (by decide) ?_
        have hs_26 : 1 = k := by omega
        subst hs_26
        rcases (show rKind (wRk (aWd a) v1) = 0 ∨ rKind (wRk (aWd a) v1) = 1 ∨ rKind (wRk (aWd a) v1) = 2 ∨ rKind (wRk (aWd a) v1) = 3 ∨ rKind (wRk (aWd a) v1) = 4 ∨ rKind (wRk (aWd a) v1) = 5 ∨ rKind (wRk (aWd a) v1) = 6 by omega) with hd9 | hd9 | hd9 | hd9 | hd9 | hd9 | hd9
        · rw [hd9] at hrmv1
          have hT0 : xTr X (va_up V 2 (some (tr, oB 1 [.ref tb, .int (zI 0)]))) tr tb [] := ⟨ht2, by decide, ft, ht3, fun i hi => absurd hi (Nat.not_lt_zero _)⟩
          refine lv_aload hx hb dX0_act_71 (lv_at hl 0 rfl) ?_
          refine lv_iload_n hx hb dX0_act_73 rfl (lv_at hl 4 rfl) ?_
          refine lv_aload_n hx hb dX0_act_74 rfl (lv_at hl 1 rfl) ?_
          refine g_get (ci := 0) hx hb hts in_X0 hown hG (hG.vo hx0) rfl 2 (Nat.le_of_ble_eq_true rfl) (hts _ q386) (fun _ h9 => h9) rfl dX0_act_75 ?_
          refine g_ci (va_runV (As := [.int (zI z), .ref tr]) (rest := []) ⟨hx, hb, hml, hown, hts⟩ (metX16_weighing_k0 hrmv1 hT0 (by decide)) (cwV 2 hts (lw_V q3213 q3214 q3215 q145 q3222) rfl rfl rfl (by decide +kernel) ⟨Nat.le_of_ble_eq_true rfl, Nat.le_of_ble_eq_true rfl⟩) (g_preV hG (g_recv hG (hG.fz (show F.1 (ma v1) = some (oB 14 _) from hrmv1)) (ci := 14) rfl)) rfl rfl hl.1 rfl (lv_room (Nat.le_of_ble_eq_true rfl)) dX0_act_78 ⟨Nat.le_of_ble_eq_true rfl, Nat.le_of_ble_eq_true rfl⟩) hG (fun r_27 F_28 V_29 ws_ H locs hp hG => ?_)
          obtain ⟨rfl, rfl, hT1, hV1, rfl⟩ := hp
          have hG : gW X F V_29 (Z) s H locs := hG
          exact g_iret hx hb hr hlocks hG (by have e9 : opAct a (v1 : Int) 1 z = (zI ((z + (v1 : Int)) * 2), aSetT a [11, 10]) := (by unfold opAct; rw [if_neg (by omega), if_neg (by decide), if_pos (by decide)]; show (zI (wgV (v1 : Int) (rBy (wRk (aWd a) v1) : Nat) ((rKind (wRk (aWd a) v1) : Nat) : Int) ((rKind (wRk (aWd a) v1) : Nat) : Int) z), aSetT a (wgT ((rKind (wRk (aWd a) v1) : Nat) : Int) ((rKind (wRk (aWd a) v1) : Nat) : Int))) = _; rw [hd9]; rfl); rw [e9]; exact ⟨gLe.rfl (V := V), rfl, (hS.setT (fun r9 h8 h9 => (hV1 r9 h8 h9).trans (va_up_ne _ _ h8)) hT1).ex, rfl⟩) ⟨Nat.le_of_ble_eq_true rfl, Nat.le_of_ble_eq_true rfl⟩ dX0_act_81
        · rw [hd9] at hrmv1
          have hT0 : xTr X (va_up V 2 (some (tr, oB 1 [.ref tb, .int (zI 0)]))) tr tb [] := ⟨ht2, by decide, ft, ht3, fun i hi => absurd hi (Nat.not_lt_zero _)⟩
          refine lv_aload hx hb dX0_act_71 (lv_at hl 0 rfl) ?_
          refine lv_iload_n hx hb dX0_act_73 rfl (lv_at hl 4 rfl) ?_
          refine lv_aload_n hx hb dX0_act_74 rfl (lv_at hl 1 rfl) ?_
          refine g_get (ci := 0) hx hb hts in_X0 hown hG (hG.vo hx0) rfl 2 (Nat.le_of_ble_eq_true rfl) (hts _ q386) (fun _ h9 => h9) rfl dX0_act_75 ?_
          refine g_ci (va_runU (C := "LineRemarks$Point") (As := [.int (zI z), .ref tr]) (rest := []) ⟨hx, hb, hml, hown, hts⟩ (metX16_weighing_k1 hrmv1 hT0 (by decide)) (va_cwU 2 hts (lw_U q3213 q3216 q3226 q3214 q145 q3222) rfl rfl rfl rfl (by decide +kernel) ⟨Nat.le_of_ble_eq_true rfl, Nat.le_of_ble_eq_true rfl⟩) (g_preV hG (g_recv hG (hG.fz (show F.1 (ma v1) = some (oB 15 _) from hrmv1)) (ci := 15) rfl)) rfl rfl hl.1 rfl (lv_room (Nat.le_of_ble_eq_true rfl)) dX0_act_78 ⟨Nat.le_of_ble_eq_true rfl, Nat.le_of_ble_eq_true rfl⟩) hG (fun r_30 F_31 V_32 ws_ H locs hp hG => ?_)
          obtain ⟨rfl, rfl, hT1, hV1, rfl⟩ := hp
          have hG : gW X F V_32 (Z) s H locs := hG
          exact g_iret hx hb hr hlocks hG (by have e9 : opAct a (v1 : Int) 1 z = (zI ((z + (v1 : Int) + (rBy (wRk (aWd a) v1) : Int)) * 2), aSetT a [11, 20, 10]) := (by unfold opAct; rw [if_neg (by omega), if_neg (by decide), if_pos (by decide)]; show (zI (wgV (v1 : Int) (rBy (wRk (aWd a) v1) : Nat) ((rKind (wRk (aWd a) v1) : Nat) : Int) ((rKind (wRk (aWd a) v1) : Nat) : Int) z), aSetT a (wgT ((rKind (wRk (aWd a) v1) : Nat) : Int) ((rKind (wRk (aWd a) v1) : Nat) : Int))) = _; rw [hd9]; rfl); rw [e9]; exact ⟨gLe.rfl (V := V), rfl, (hS.setT (fun r9 h8 h9 => (hV1 r9 h8 h9).trans (va_up_ne _ _ h8)) hT1).ex, rfl⟩) ⟨Nat.le_of_ble_eq_true rfl, Nat.le_of_ble_eq_true rfl⟩ dX0_act_81
        · rw [hd9] at hrmv1
          have hT0 : xTr X (va_up V 2 (some (tr, oB 1 [.ref tb, .int (zI 0)]))) tr tb [] := ⟨ht2, by decide, ft, ht3, fun i hi => absurd hi (Nat.not_lt_zero _)⟩
          refine lv_aload hx hb dX0_act_71 (lv_at hl 0 rfl) ?_
          refine lv_iload_n hx hb dX0_act_73 rfl (lv_at hl 4 rfl) ?_
          refine lv_aload_n hx hb dX0_act_74 rfl (lv_at hl 1 rfl) ?_
          refine g_get (ci := 0) hx hb hts in_X0 hown hG (hG.vo hx0) rfl 2 (Nat.le_of_ble_eq_true rfl) (hts _ q386) (fun _ h9 => h9) rfl dX0_act_75 ?_
          refine g_ci (va_runU (C := "LineRemarks$Block") (As := [.int (zI z), .ref tr]) (rest := []) ⟨hx, hb, hml, hown, hts⟩ (metX18_weighing_k2 hrmv1 hT0 (by decide)) (va_cwO 2 hts (lw_O q3213 q3216 q3214 q3217 q3218 q147 q3219) rfl rfl rfl q3222 (by decide +kernel) ⟨Nat.le_of_ble_eq_true rfl, Nat.le_of_ble_eq_true rfl⟩) (g_preV hG (g_recv hG (hG.fz (show F.1 (ma v1) = some (oB 16 _) from hrmv1)) (ci := 16) rfl)) rfl rfl hl.1 rfl (lv_room (Nat.le_of_ble_eq_true rfl)) dX0_act_78 ⟨Nat.le_of_ble_eq_true rfl, Nat.le_of_ble_eq_true rfl⟩) hG (fun r_33 F_34 V_35 ws_ H locs hp hG => ?_)
          obtain ⟨rfl, rfl, hT1, hV1, rfl⟩ := hp
          have hG : gW X F V_35 (Z) s H locs := hG
          exact g_iret hx hb hr hlocks hG (by have e9 : opAct a (v1 : Int) 1 z = (zI ((z + (v1 : Int)) * 2 * 3), aSetT a [30, 11, 10]) := (by unfold opAct; rw [if_neg (by omega), if_neg (by decide), if_pos (by decide)]; show (zI (wgV (v1 : Int) (rBy (wRk (aWd a) v1) : Nat) ((rKind (wRk (aWd a) v1) : Nat) : Int) ((rKind (wRk (aWd a) v1) : Nat) : Int) z), aSetT a (wgT ((rKind (wRk (aWd a) v1) : Nat) : Int) ((rKind (wRk (aWd a) v1) : Nat) : Int))) = _; rw [hd9]; rfl); rw [e9]; exact ⟨gLe.rfl (V := V), rfl, (hS.setT (fun r9 h8 h9 => (hV1 r9 h8 h9).trans (va_up_ne _ _ h8)) hT1).ex, rfl⟩) ⟨Nat.le_of_ble_eq_true rfl, Nat.le_of_ble_eq_true rfl⟩ dX0_act_81
        · rw [hd9] at hrmv1
          have hT0 : xTr X (va_up V 2 (some (tr, oB 1 [.ref tb, .int (zI 0)]))) tr tb [] := ⟨ht2, by decide, ft, ht3, fun i hi => absurd hi (Nat.not_lt_zero _)⟩
          refine lv_aload hx hb dX0_act_71 (lv_at hl 0 rfl) ?_
          refine lv_iload_n hx hb dX0_act_73 rfl (lv_at hl 4 rfl) ?_
          refine lv_aload_n hx hb dX0_act_74 rfl (lv_at hl 1 rfl) ?_
          refine g_get (ci := 0) hx hb hts in_X0 hown hG (hG.vo hx0) rfl 2 (Nat.le_of_ble_eq_true rfl) (hts _ q386) (fun _ h9 => h9) rfl dX0_act_75 ?_
          refine g_ci (va_runU (C := "LineRemarks$Caret") (As := [.int (zI z), .ref tr]) (rest := []) ⟨hx, hb, hml, hown, hts⟩ (metX16_weighing_k3 hrmv1 hT0 (by decide)) (va_cwU 2 hts (lw_U q3213 q3216 q3224 q3214 q145 q3222) rfl rfl rfl rfl (by decide +kernel) ⟨Nat.le_of_ble_eq_true rfl, Nat.le_of_ble_eq_true rfl⟩) (g_preV hG (g_recv hG (hG.fz (show F.1 (ma v1) = some (oB 17 _) from hrmv1)) (ci := 17) rfl)) rfl rfl hl.1 rfl (lv_room (Nat.le_of_ble_eq_true rfl)) dX0_act_78 ⟨Nat.le_of_ble_eq_true rfl, Nat.le_of_ble_eq_true rfl⟩) hG (fun r_36 F_37 V_38 ws_ H locs hp hG => ?_)
          obtain ⟨rfl, rfl, hT1, hV1, rfl⟩ := hp
          have hG : gW X F V_38 (Z) s H locs := hG
          exact g_iret hx hb hr hlocks hG (by have e9 : opAct a (v1 : Int) 1 z = (zI ((z + 1 + (v1 : Int) + (rBy (wRk (aWd a) v1) : Int)) * 2), aSetT a [11, 40, 20, 10]) := (by unfold opAct; rw [if_neg (by omega), if_neg (by decide), if_pos (by decide)]; show (zI (wgV (v1 : Int) (rBy (wRk (aWd a) v1) : Nat) ((rKind (wRk (aWd a) v1) : Nat) : Int) ((rKind (wRk (aWd a) v1) : Nat) : Int) z), aSetT a (wgT ((rKind (wRk (aWd a) v1) : Nat) : Int) ((rKind (wRk (aWd a) v1) : Nat) : Int))) = _; rw [hd9]; rfl); rw [e9]; exact ⟨gLe.rfl (V := V), rfl, (hS.setT (fun r9 h8 h9 => (hV1 r9 h8 h9).trans (va_up_ne _ _ h8)) hT1).ex, rfl⟩) ⟨Nat.le_of_ble_eq_true rfl, Nat.le_of_ble_eq_true rfl⟩ dX0_act_81
        · rw [hd9] at hrmv1
          have hT0 : xTr X (va_up V 2 (some (tr, oB 1 [.ref tb, .int (zI 0)]))) tr tb [] := ⟨ht2, by decide, ft, ht3, fun i hi => absurd hi (Nat.not_lt_zero _)⟩
          refine lv_aload hx hb dX0_act_71 (lv_at hl 0 rfl) ?_
          refine lv_iload_n hx hb dX0_act_73 rfl (lv_at hl 4 rfl) ?_
          refine lv_aload_n hx hb dX0_act_74 rfl (lv_at hl 1 rfl) ?_
          refine g_get (ci := 0) hx hb hts in_X0 hown hG (hG.vo hx0) rfl 2 (Nat.le_of_ble_eq_true rfl) (hts _ q386) (fun _ h9 => h9) rfl dX0_act_75 ?_
          refine g_ci (va_runU (C := "LineRemarks$Loose") (As := [.int (zI z), .ref tr]) (rest := []) ⟨hx, hb, hml, hown, hts⟩ (metX16_weighing_k4 hrmv1 hT0 (by decide)) (va_cwU 2 hts (lw_U q3213 q3216 q3225 q3214 q145 q3222) rfl rfl rfl rfl (by decide +kernel) ⟨Nat.le_of_ble_eq_true rfl, Nat.le_of_ble_eq_true rfl⟩) (g_preV hG (g_recv hG (hG.fz (show F.1 (ma v1) = some (oB 18 _) from hrmv1)) (ci := 18) rfl)) rfl rfl hl.1 rfl (lv_room (Nat.le_of_ble_eq_true rfl)) dX0_act_78 ⟨Nat.le_of_ble_eq_true rfl, Nat.le_of_ble_eq_true rfl⟩) hG (fun r_39 F_40 V_41 ws_ H locs hp hG => ?_)
          obtain ⟨rfl, rfl, hT1, hV1, rfl⟩ := hp
          have hG : gW X F V_41 (Z) s H locs := hG
          exact g_iret hx hb hr hlocks hG (by have e9 : opAct a (v1 : Int) 1 z = (zI ((z + (v1 : Int) - (v1 : Int)) * 2), aSetT a [11, 51, 10]) := (by unfold opAct; rw [if_neg (by omega), if_neg (by decide), if_pos (by decide)]; show (zI (wgV (v1 : Int) (rBy (wRk (aWd a) v1) : Nat) ((rKind (wRk (aWd a) v1) : Nat) : Int) ((rKind (wRk (aWd a) v1) : Nat) : Int) z), aSetT a (wgT ((rKind (wRk (aWd a) v1) : Nat) : Int) ((rKind (wRk (aWd a) v1) : Nat) : Int))) = _; rw [hd9]; rfl); rw [e9]; exact ⟨gLe.rfl (V := V), rfl, (hS.setT (fun r9 h8 h9 => (hV1 r9 h8 h9).trans (va_up_ne _ _ h8)) hT1).ex, rfl⟩) ⟨Nat.le_of_ble_eq_true rfl, Nat.le_of_ble_eq_true rfl⟩ dX0_act_81
        · rw [hd9] at hrmv1
          have hT0 : xTr X (va_up V 2 (some (tr, oB 1 [.ref tb, .int (zI 0)]))) tr tb [] := ⟨ht2, by decide, ft, ht3, fun i hi => absurd hi (Nat.not_lt_zero _)⟩
          refine lv_aload hx hb dX0_act_71 (lv_at hl 0 rfl) ?_
          refine lv_iload_n hx hb dX0_act_73 rfl (lv_at hl 4 rfl) ?_
          refine lv_aload_n hx hb dX0_act_74 rfl (lv_at hl 1 rfl) ?_
          refine g_get (ci := 0) hx hb hts in_X0 hown hG (hG.vo hx0) rfl 2 (Nat.le_of_ble_eq_true rfl) (hts _ q386) (fun _ h9 => h9) rfl dX0_act_75 ?_
          refine g_ci (va_runU (C := "LineRemarks$Wall") (As := [.int (zI z), .ref tr]) (rest := []) ⟨hx, hb, hml, hown, hts⟩ (metX18_weighing_k5 hrmv1 hT0 (by decide)) (va_cwO 2 hts (lw_O q3213 q3216 q3214 q3233 q3218 q147 q3219) rfl rfl rfl q3222 (by decide +kernel) ⟨Nat.le_of_ble_eq_true rfl, Nat.le_of_ble_eq_true rfl⟩) (g_preV hG (g_recv hG (hG.fz (show F.1 (ma v1) = some (oB 19 _) from hrmv1)) (ci := 19) rfl)) rfl rfl hl.1 rfl (lv_room (Nat.le_of_ble_eq_true rfl)) dX0_act_78 ⟨Nat.le_of_ble_eq_true rfl, Nat.le_of_ble_eq_true rfl⟩) hG (fun r_42 F_43 V_44 ws_ H locs hp hG => ?_)
          obtain ⟨rfl, rfl, hT1, hV1, rfl⟩ := hp
          have hG : gW X F V_44 (Z) s H locs := hG
          exact g_iret hx hb hr hlocks hG (by have e9 : opAct a (v1 : Int) 1 z = (zI ((z + (v1 : Int)) * 2 * 3), aSetT a [30, 11, 10]) := (by unfold opAct; rw [if_neg (by omega), if_neg (by decide), if_pos (by decide)]; show (zI (wgV (v1 : Int) (rBy (wRk (aWd a) v1) : Nat) ((rKind (wRk (aWd a) v1) : Nat) : Int) ((rKind (wRk (aWd a) v1) : Nat) : Int) z), aSetT a (wgT ((rKind (wRk (aWd a) v1) : Nat) : Int) ((rKind (wRk (aWd a) v1) : Nat) : Int))) = _; rw [hd9]; rfl); rw [e9]; exact ⟨gLe.rfl (V := V), rfl, (hS.setT (fun r9 h8 h9 => (hV1 r9 h8 h9).trans (va_up_ne _ _ h8)) hT1).ex, rfl⟩) ⟨Nat.le_of_ble_eq_true rfl, Nat.le_of_ble_eq_true rfl⟩ dX0_act_81
        · rw [hd9] at hrmv1
          have hT0 : xTr X (va_up V 2 (some (tr, oB 1 [.ref tb, .int (zI 0)]))) tr tb [] := ⟨ht2, by decide, ft, ht3, fun i hi => absurd hi (Nat.not_lt_zero _)⟩
          refine lv_aload hx hb dX0_act_71 (lv_at hl 0 rfl) ?_
          refine lv_iload_n hx hb dX0_act_73 rfl (lv_at hl 4 rfl) ?_
          refine lv_aload_n hx hb dX0_act_74 rfl (lv_at hl 1 rfl) ?_
          refine g_get (ci := 0) hx hb hts in_X0 hown hG (hG.vo hx0) rfl 2 (Nat.le_of_ble_eq_true rfl) (hts _ q386) (fun _ h9 => h9) rfl dX0_act_75 ?_
          refine g_ci (va_runU (C := "LineRemarks$Tail") (As := [.int (zI z), .ref tr]) (rest := []) ⟨hx, hb, hml, hown, hts⟩ (metX22_weighing_k6 hrmv1 hT0 (by decide)) (va_cwO 2 hts (lw_O q3213 q3216 q3214 q3227 q3228 q151 q3229) rfl rfl rfl q3222 (by decide +kernel) ⟨Nat.le_of_ble_eq_true rfl, Nat.le_of_ble_eq_true rfl⟩) (g_preV hG (g_recv hG (hG.fz (show F.1 (ma v1) = some (oB 20 _) from hrmv1)) (ci := 20) rfl)) rfl rfl hl.1 rfl (lv_room (Nat.le_of_ble_eq_true rfl)) dX0_act_78 ⟨Nat.le_of_ble_eq_true rfl, Nat.le_of_ble_eq_true rfl⟩) hG (fun r_45 F_46 V_47 ws_ H locs hp hG => ?_)
          obtain ⟨rfl, rfl, hT1, hV1, rfl⟩ := hp
          have hG : gW X F V_47 (Z) s H locs := hG
          exact g_iret hx hb hr hlocks hG (by have e9 : opAct a (v1 : Int) 1 z = (zI ((((z - (rBy (wRk (aWd a) v1) : Int)) + 1 + (v1 : Int) + (rBy (wRk (aWd a) v1) : Int)) * 2) * 2), aSetT a [71, 11, 70, 40, 20, 10]) := (by unfold opAct; rw [if_neg (by omega), if_neg (by decide), if_pos (by decide)]; show (zI (wgV (v1 : Int) (rBy (wRk (aWd a) v1) : Nat) ((rKind (wRk (aWd a) v1) : Nat) : Int) ((rKind (wRk (aWd a) v1) : Nat) : Int) z), aSetT a (wgT ((rKind (wRk (aWd a) v1) : Nat) : Int) ((rKind (wRk (aWd a) v1) : Nat) : Int))) = _; rw [hd9]; rfl); rw [e9]; exact ⟨gLe.rfl (V := V), rfl, (hS.setT (fun r9 h8 h9 => (hV1 r9 h8 h9).trans (va_up_ne _ _ h8)) hT1).ex, rfl⟩) ⟨Nat.le_of_ble_eq_true rfl, Nat.le_of_ble_eq_true rfl⟩ dX0_act_81
      · refine g_tin hx hb 2 (off := 49) (tgt := 82) dX0_act_33 hk (by decide) rfl (by decide) ?_
        have hs_48 : 2 = k := by omega
        subst hs_48
        rcases (show rKind (wRk (aWd a) v1) = 0 ∨ rKind (wRk (aWd a) v1) = 1 ∨ rKind (wRk (aWd a) v1) = 2 ∨ rKind (wRk (aWd a) v1) = 3 ∨ rKind (wRk (aWd a) v1) = 4 ∨ rKind (wRk (aWd a) v1) = 5 ∨ rKind (wRk (aWd a) v1) = 6 by omega) with hd9 | hd9 | hd9 | hd9 | hd9 | hd9 | hd9
        · rw [hd9] at hrmv1
          have hT0 : xTr X (va_up V 2 (some (tr, oB 1 [.ref tb, .int (zI 0)]))) tr tb [] := ⟨ht2, by decide, ft, ht3, fun i hi => absurd hi (Nat.not_lt_zero _)⟩
          refine lv_aload hx hb dX0_act_82 (lv_at hl 0 rfl) ?_
          refine lv_iload_n hx hb dX0_act_84 rfl (lv_at hl 4 rfl) ?_
          refine lv_aload_n hx hb dX0_act_85 rfl (lv_at hl 1 rfl) ?_
          refine g_get (ci := 0) hx hb hts in_X0 hown hG (hG.vo hx0) rfl 2 (Nat.le_of_ble_eq_true rfl) (hts _ q386) (fun _ h9 => h9) rfl dX0_act_86 ?_
          refine g_ci (va_runV (As := [.int (zI z), .ref tr]) (rest := []) ⟨hx, hb, hml, hown, hts⟩ (metX16_clinging_k0 hrmv1 hT0 (by decide)) (cwV 2 hts (lw_V q3234 q3235 q3236 q145 q3244) rfl rfl rfl (by decide +kernel) ⟨Nat.le_of_ble_eq_true rfl, Nat.le_of_ble_eq_true rfl⟩) (g_preV hG (g_recv hG (hG.fz (show F.1 (ma v1) = some (oB 14 _) from hrmv1)) (ci := 14) rfl)) rfl rfl hl.1 rfl (lv_room (Nat.le_of_ble_eq_true rfl)) dX0_act_89 ⟨Nat.le_of_ble_eq_true rfl, Nat.le_of_ble_eq_true rfl⟩) hG (fun r_49 F_50 V_51 ws_ H locs hp hG => ?_)
          obtain ⟨rfl, rfl, hT1, hV1, rfl⟩ := hp
          have hG : gW X F V_51 (Z) s H locs := hG
          exact g_iret hx hb hr hlocks hG (by have e9 : opAct a (v1 : Int) 2 z = (zI ((z + (v1 : Int)) * 2) ^^^ zI ((z - (rBy (wRk (aWd a) v1) : Int)) + (v1 : Int)), aSetT a [12, 11, 10, 10]) := (by unfold opAct; rw [if_neg (by omega), if_neg (by decide), if_neg (by decide)]; show (clV (v1 : Int) (rBy (wRk (aWd a) v1) : Nat) ((rKind (wRk (aWd a) v1) : Nat) : Int) ((rKind (wRk (aWd a) v1) : Nat) : Int) z, aSetT a (clT ((rKind (wRk (aWd a) v1) : Nat) : Int) ((rKind (wRk (aWd a) v1) : Nat) : Int))) = _; rw [hd9]; rfl); rw [e9]; exact ⟨gLe.rfl (V := V), rfl, (hS.setT (fun r9 h8 h9 => (hV1 r9 h8 h9).trans (va_up_ne _ _ h8)) hT1).ex, rfl⟩) ⟨Nat.le_of_ble_eq_true rfl, Nat.le_of_ble_eq_true rfl⟩ dX0_act_92
        · rw [hd9] at hrmv1
          have hT0 : xTr X (va_up V 2 (some (tr, oB 1 [.ref tb, .int (zI 0)]))) tr tb [] := ⟨ht2, by decide, ft, ht3, fun i hi => absurd hi (Nat.not_lt_zero _)⟩
          refine lv_aload hx hb dX0_act_82 (lv_at hl 0 rfl) ?_
          refine lv_iload_n hx hb dX0_act_84 rfl (lv_at hl 4 rfl) ?_
          refine lv_aload_n hx hb dX0_act_85 rfl (lv_at hl 1 rfl) ?_
          refine g_get (ci := 0) hx hb hts in_X0 hown hG (hG.vo hx0) rfl 2 (Nat.le_of_ble_eq_true rfl) (hts _ q386) (fun _ h9 => h9) rfl dX0_act_86 ?_
          refine g_ci (va_runU (C := "LineRemarks$Point") (As := [.int (zI z), .ref tr]) (rest := []) ⟨hx, hb, hml, hown, hts⟩ (metX16_clinging_k1 hrmv1 hT0 (by decide)) (va_cwU 2 hts (lw_U q3234 q3237 q3246 q3235 q145 q3244) rfl rfl rfl rfl (by decide +kernel) ⟨Nat.le_of_ble_eq_true rfl, Nat.le_of_ble_eq_true rfl⟩) (g_preV hG (g_recv hG (hG.fz (show F.1 (ma v1) = some (oB 15 _) from hrmv1)) (ci := 15) rfl)) rfl rfl hl.1 rfl (lv_room (Nat.le_of_ble_eq_true rfl)) dX0_act_89 ⟨Nat.le_of_ble_eq_true rfl, Nat.le_of_ble_eq_true rfl⟩) hG (fun r_52 F_53 V_54 ws_ H locs hp hG => ?_)
          obtain ⟨rfl, rfl, hT1, hV1, rfl⟩ := hp
          have hG : gW X F V_54 (Z) s H locs := hG
          exact g_iret hx hb hr hlocks hG (by have e9 : opAct a (v1 : Int) 2 z = (zI ((z + (v1 : Int) + (rBy (wRk (aWd a) v1) : Int)) * 2) ^^^ zI ((z - (rBy (wRk (aWd a) v1) : Int)) + (v1 : Int) + (rBy (wRk (aWd a) v1) : Int)), aSetT a [12, 11, 20, 10, 20, 10]) := (by unfold opAct; rw [if_neg (by omega), if_neg (by decide), if_neg (by decide)]; show (clV (v1 : Int) (rBy (wRk (aWd a) v1) : Nat) ((rKind (wRk (aWd a) v1) : Nat) : Int) ((rKind (wRk (aWd a) v1) : Nat) : Int) z, aSetT a (clT ((rKind (wRk (aWd a) v1) : Nat) : Int) ((rKind (wRk (aWd a) v1) : Nat) : Int))) = _; rw [hd9]; rfl); rw [e9]; exact ⟨gLe.rfl (V := V), rfl, (hS.setT (fun r9 h8 h9 => (hV1 r9 h8 h9).trans (va_up_ne _ _ h8)) hT1).ex, rfl⟩) ⟨Nat.le_of_ble_eq_true rfl, Nat.le_of_ble_eq_true rfl⟩ dX0_act_92
        · rw [hd9] at hrmv1
          have hT0 : xTr X (va_up V 2 (some (tr, oB 1 [.ref tb, .int (zI 0)]))) tr tb [] := ⟨ht2, by decide, ft, ht3, fun i hi => absurd hi (Nat.not_lt_zero _)⟩
          refine lv_aload hx hb dX0_act_82 (lv_at hl 0 rfl) ?_
          refine lv_iload_n hx hb dX0_act_84 rfl (lv_at hl 4 rfl) ?_
          refine lv_aload_n hx hb dX0_act_85 rfl (lv_at hl 1 rfl) ?_
          refine g_get (ci := 0) hx hb hts in_X0 hown hG (hG.vo hx0) rfl 2 (Nat.le_of_ble_eq_true rfl) (hts _ q386) (fun _ h9 => h9) rfl dX0_act_86 ?_
          refine g_ci (va_runU (C := "LineRemarks$Block") (As := [.int (zI z), .ref tr]) (rest := []) ⟨hx, hb, hml, hown, hts⟩ (metX16_clinging_k2 hrmv1 hT0 (by decide)) (va_cwU 2 hts (lw_U q3234 q3237 q3238 q3235 q145 q3244) rfl rfl rfl rfl (by decide +kernel) ⟨Nat.le_of_ble_eq_true rfl, Nat.le_of_ble_eq_true rfl⟩) (g_preV hG (g_recv hG (hG.fz (show F.1 (ma v1) = some (oB 16 _) from hrmv1)) (ci := 16) rfl)) rfl rfl hl.1 rfl (lv_room (Nat.le_of_ble_eq_true rfl)) dX0_act_89 ⟨Nat.le_of_ble_eq_true rfl, Nat.le_of_ble_eq_true rfl⟩) hG (fun r_55 F_56 V_57 ws_ H locs hp hG => ?_)
          obtain ⟨rfl, rfl, hT1, hV1, rfl⟩ := hp
          have hG : gW X F V_57 (Z) s H locs := hG
          exact g_iret hx hb hr hlocks hG (by have e9 : opAct a (v1 : Int) 2 z = (zI ((z + (v1 : Int)) * 2 * 3) ^^^ zI ((z - (rBy (wRk (aWd a) v1) : Int)) + (v1 : Int)), aSetT a [12, 30, 11, 10, 10]) := (by unfold opAct; rw [if_neg (by omega), if_neg (by decide), if_neg (by decide)]; show (clV (v1 : Int) (rBy (wRk (aWd a) v1) : Nat) ((rKind (wRk (aWd a) v1) : Nat) : Int) ((rKind (wRk (aWd a) v1) : Nat) : Int) z, aSetT a (clT ((rKind (wRk (aWd a) v1) : Nat) : Int) ((rKind (wRk (aWd a) v1) : Nat) : Int))) = _; rw [hd9]; rfl); rw [e9]; exact ⟨gLe.rfl (V := V), rfl, (hS.setT (fun r9 h8 h9 => (hV1 r9 h8 h9).trans (va_up_ne _ _ h8)) hT1).ex, rfl⟩) ⟨Nat.le_of_ble_eq_true rfl, Nat.le_of_ble_eq_true rfl⟩ dX0_act_92
        · rw [hd9] at hrmv1
          have hT0 : xTr X (va_up V 2 (some (tr, oB 1 [.ref tb, .int (zI 0)]))) tr tb [] := ⟨ht2, by decide, ft, ht3, fun i hi => absurd hi (Nat.not_lt_zero _)⟩
          refine lv_aload hx hb dX0_act_82 (lv_at hl 0 rfl) ?_
          refine lv_iload_n hx hb dX0_act_84 rfl (lv_at hl 4 rfl) ?_
          refine lv_aload_n hx hb dX0_act_85 rfl (lv_at hl 1 rfl) ?_
          refine g_get (ci := 0) hx hb hts in_X0 hown hG (hG.vo hx0) rfl 2 (Nat.le_of_ble_eq_true rfl) (hts _ q386) (fun _ h9 => h9) rfl dX0_act_86 ?_
          refine g_ci (va_runU (C := "LineRemarks$Caret") (As := [.int (zI z), .ref tr]) (rest := []) ⟨hx, hb, hml, hown, hts⟩ (metX16_clinging_k3 hrmv1 hT0 (by decide)) (va_cwU 2 hts (lw_U q3234 q3237 q3239 q3235 q145 q3244) rfl rfl rfl rfl (by decide +kernel) ⟨Nat.le_of_ble_eq_true rfl, Nat.le_of_ble_eq_true rfl⟩) (g_preV hG (g_recv hG (hG.fz (show F.1 (ma v1) = some (oB 17 _) from hrmv1)) (ci := 17) rfl)) rfl rfl hl.1 rfl (lv_room (Nat.le_of_ble_eq_true rfl)) dX0_act_89 ⟨Nat.le_of_ble_eq_true rfl, Nat.le_of_ble_eq_true rfl⟩) hG (fun r_58 F_59 V_60 ws_ H locs hp hG => ?_)
          obtain ⟨rfl, rfl, hT1, hV1, rfl⟩ := hp
          have hG : gW X F V_60 (Z) s H locs := hG
          exact g_iret hx hb hr hlocks hG (by have e9 : opAct a (v1 : Int) 2 z = (zI ((z + 1 + (v1 : Int) + (rBy (wRk (aWd a) v1) : Int)) * 2) ^^^ zI ((z - (rBy (wRk (aWd a) v1) : Int)) + 1 + (v1 : Int) + (rBy (wRk (aWd a) v1) : Int)), aSetT a [12, 11, 40, 20, 10, 40, 20, 10]) := (by unfold opAct; rw [if_neg (by omega), if_neg (by decide), if_neg (by decide)]; show (clV (v1 : Int) (rBy (wRk (aWd a) v1) : Nat) ((rKind (wRk (aWd a) v1) : Nat) : Int) ((rKind (wRk (aWd a) v1) : Nat) : Int) z, aSetT a (clT ((rKind (wRk (aWd a) v1) : Nat) : Int) ((rKind (wRk (aWd a) v1) : Nat) : Int))) = _; rw [hd9]; rfl); rw [e9]; exact ⟨gLe.rfl (V := V), rfl, (hS.setT (fun r9 h8 h9 => (hV1 r9 h8 h9).trans (va_up_ne _ _ h8)) hT1).ex, rfl⟩) ⟨Nat.le_of_ble_eq_true rfl, Nat.le_of_ble_eq_true rfl⟩ dX0_act_92
        · rw [hd9] at hrmv1
          have hT0 : xTr X (va_up V 2 (some (tr, oB 1 [.ref tb, .int (zI 0)]))) tr tb [] := ⟨ht2, by decide, ft, ht3, fun i hi => absurd hi (Nat.not_lt_zero _)⟩
          refine lv_aload hx hb dX0_act_82 (lv_at hl 0 rfl) ?_
          refine lv_iload_n hx hb dX0_act_84 rfl (lv_at hl 4 rfl) ?_
          refine lv_aload_n hx hb dX0_act_85 rfl (lv_at hl 1 rfl) ?_
          refine g_get (ci := 0) hx hb hts in_X0 hown hG (hG.vo hx0) rfl 2 (Nat.le_of_ble_eq_true rfl) (hts _ q386) (fun _ h9 => h9) rfl dX0_act_86 ?_
          refine g_ci (va_runU (C := "LineRemarks$Loose") (As := [.int (zI z), .ref tr]) (rest := []) ⟨hx, hb, hml, hown, hts⟩ (metX20_clinging_k4 hrmv1 hT0 (by decide)) (va_cwO 2 hts (lw_O q3234 q3237 q3235 q3240 q3241 q149 q3242) rfl rfl rfl q3244 (by decide +kernel) ⟨Nat.le_of_ble_eq_true rfl, Nat.le_of_ble_eq_true rfl⟩) (g_preV hG (g_recv hG (hG.fz (show F.1 (ma v1) = some (oB 18 _) from hrmv1)) (ci := 18) rfl)) rfl rfl hl.1 rfl (lv_room (Nat.le_of_ble_eq_true rfl)) dX0_act_89 ⟨Nat.le_of_ble_eq_true rfl, Nat.le_of_ble_eq_true rfl⟩) hG (fun r_61 F_62 V_63 ws_ H locs hp hG => ?_)
          obtain ⟨rfl, rfl, hT1, hV1, rfl⟩ := hp
          have hG : gW X F V_63 (Z) s H locs := hG
          exact g_iret hx hb hr hlocks hG (by have e9 : opAct a (v1 : Int) 2 z = (-(zI ((z + (v1 : Int) - (v1 : Int)) * 2) ^^^ zI ((z - (rBy (wRk (aWd a) v1) : Int)) + (v1 : Int) - (v1 : Int))), aSetT a [50, 12, 11, 51, 10, 51, 10]) := (by unfold opAct; rw [if_neg (by omega), if_neg (by decide), if_neg (by decide)]; show (clV (v1 : Int) (rBy (wRk (aWd a) v1) : Nat) ((rKind (wRk (aWd a) v1) : Nat) : Int) ((rKind (wRk (aWd a) v1) : Nat) : Int) z, aSetT a (clT ((rKind (wRk (aWd a) v1) : Nat) : Int) ((rKind (wRk (aWd a) v1) : Nat) : Int))) = _; rw [hd9]; rfl); rw [e9]; exact ⟨gLe.rfl (V := V), rfl, (hS.setT (fun r9 h8 h9 => (hV1 r9 h8 h9).trans (va_up_ne _ _ h8)) hT1).ex, rfl⟩) ⟨Nat.le_of_ble_eq_true rfl, Nat.le_of_ble_eq_true rfl⟩ dX0_act_92
        · rw [hd9] at hrmv1
          have hT0 : xTr X (va_up V 2 (some (tr, oB 1 [.ref tb, .int (zI 0)]))) tr tb [] := ⟨ht2, by decide, ft, ht3, fun i hi => absurd hi (Nat.not_lt_zero _)⟩
          refine lv_aload hx hb dX0_act_82 (lv_at hl 0 rfl) ?_
          refine lv_iload_n hx hb dX0_act_84 rfl (lv_at hl 4 rfl) ?_
          refine lv_aload_n hx hb dX0_act_85 rfl (lv_at hl 1 rfl) ?_
          refine g_get (ci := 0) hx hb hts in_X0 hown hG (hG.vo hx0) rfl 2 (Nat.le_of_ble_eq_true rfl) (hts _ q386) (fun _ h9 => h9) rfl dX0_act_86 ?_
          refine g_ci (va_runU (C := "LineRemarks$Wall") (As := [.int (zI z), .ref tr]) (rest := []) ⟨hx, hb, hml, hown, hts⟩ (metX21_clinging_k5 hrmv1 hT0 (by decide)) (va_cwO 2 hts (lw_O q3234 q3237 q3235 q3248 q3249 q150 q3250) rfl rfl rfl q3244 (by decide +kernel) ⟨Nat.le_of_ble_eq_true rfl, Nat.le_of_ble_eq_true rfl⟩) (g_preV hG (g_recv hG (hG.fz (show F.1 (ma v1) = some (oB 19 _) from hrmv1)) (ci := 19) rfl)) rfl rfl hl.1 rfl (lv_room (Nat.le_of_ble_eq_true rfl)) dX0_act_89 ⟨Nat.le_of_ble_eq_true rfl, Nat.le_of_ble_eq_true rfl⟩) hG (fun r_64 F_65 V_66 ws_ H locs hp hG => ?_)
          obtain ⟨rfl, rfl, hT1, hV1, rfl⟩ := hp
          have hG : gW X F V_66 (Z) s H locs := hG
          exact g_iret hx hb hr hlocks hG (by have e9 : opAct a (v1 : Int) 2 z = (zI ((z + (v1 : Int)) * 2 * 3) ^^^ zI ((z - (rBy (wRk (aWd a) v1) : Int)) + (v1 : Int)) ^^^ zI 5, aSetT a [60, 12, 30, 11, 10, 10]) := (by unfold opAct; rw [if_neg (by omega), if_neg (by decide), if_neg (by decide)]; show (clV (v1 : Int) (rBy (wRk (aWd a) v1) : Nat) ((rKind (wRk (aWd a) v1) : Nat) : Int) ((rKind (wRk (aWd a) v1) : Nat) : Int) z, aSetT a (clT ((rKind (wRk (aWd a) v1) : Nat) : Int) ((rKind (wRk (aWd a) v1) : Nat) : Int))) = _; rw [hd9]; rfl); rw [e9]; exact ⟨gLe.rfl (V := V), rfl, (hS.setT (fun r9 h8 h9 => (hV1 r9 h8 h9).trans (va_up_ne _ _ h8)) hT1).ex, rfl⟩) ⟨Nat.le_of_ble_eq_true rfl, Nat.le_of_ble_eq_true rfl⟩ dX0_act_92
        · rw [hd9] at hrmv1
          have hT0 : xTr X (va_up V 2 (some (tr, oB 1 [.ref tb, .int (zI 0)]))) tr tb [] := ⟨ht2, by decide, ft, ht3, fun i hi => absurd hi (Nat.not_lt_zero _)⟩
          refine lv_aload hx hb dX0_act_82 (lv_at hl 0 rfl) ?_
          refine lv_iload_n hx hb dX0_act_84 rfl (lv_at hl 4 rfl) ?_
          refine lv_aload_n hx hb dX0_act_85 rfl (lv_at hl 1 rfl) ?_
          refine g_get (ci := 0) hx hb hts in_X0 hown hG (hG.vo hx0) rfl 2 (Nat.le_of_ble_eq_true rfl) (hts _ q386) (fun _ h9 => h9) rfl dX0_act_86 ?_
          refine g_ci (va_runU (C := "LineRemarks$Tail") (As := [.int (zI z), .ref tr]) (rest := []) ⟨hx, hb, hml, hown, hts⟩ (metX16_clinging_k6 hrmv1 hT0 (by decide)) (va_cwU 2 hts (lw_U q3234 q3237 q3247 q3235 q145 q3244) rfl rfl rfl rfl (by decide +kernel) ⟨Nat.le_of_ble_eq_true rfl, Nat.le_of_ble_eq_true rfl⟩) (g_preV hG (g_recv hG (hG.fz (show F.1 (ma v1) = some (oB 20 _) from hrmv1)) (ci := 20) rfl)) rfl rfl hl.1 rfl (lv_room (Nat.le_of_ble_eq_true rfl)) dX0_act_89 ⟨Nat.le_of_ble_eq_true rfl, Nat.le_of_ble_eq_true rfl⟩) hG (fun r_67 F_68 V_69 ws_ H locs hp hG => ?_)
          obtain ⟨rfl, rfl, hT1, hV1, rfl⟩ := hp
          have hG : gW X F V_69 (Z) s H locs := hG
          exact g_iret hx hb hr hlocks hG (by have e9 : opAct a (v1 : Int) 2 z = (zI ((((z - (rBy (wRk (aWd a) v1) : Int)) + 1 + (v1 : Int) + (rBy (wRk (aWd a) v1) : Int)) * 2) * 2) ^^^ zI (((z - (rBy (wRk (aWd a) v1) : Int)) + 1 + (v1 : Int) + (rBy (wRk (aWd a) v1) : Int)) * 2), aSetT a [12, 71, 11, 70, 40, 20, 10, 70, 40, 20, 10]) := (by unfold opAct; rw [if_neg (by omega), if_neg (by decide), if_neg (by decide)]; show (clV (v1 : Int) (rBy (wRk (aWd a) v1) : Nat) ((rKind (wRk (aWd a) v1) : Nat) : Int) ((rKind (wRk (aWd a) v1) : Nat) : Int) z, aSetT a (clT ((rKind (wRk (aWd a) v1) : Nat) : Int) ((rKind (wRk (aWd a) v1) : Nat) : Int))) = _; rw [hd9]; rfl); rw [e9]; exact ⟨gLe.rfl (V := V), rfl, (hS.setT (fun r9 h8 h9 => (hV1 r9 h8 h9).trans (va_up_ne _ _ h8)) hT1).ex, rfl⟩) ⟨Nat.le_of_ble_eq_true rfl, Nat.le_of_ble_eq_true rfl⟩ dX0_act_92
      · refine g_tout (tgt := 93) hx hb dX0_act_33 (by omega) (by decide) ?_
        have hT0 : xTr X (va_up V 2 (some (tr, oB 1 [.ref tb, .int (zI 0)]))) tr tb [] := ⟨ht2, by decide, ft, ht3, fun i hi => absurd hi (Nat.not_lt_zero _)⟩
        refine lv_iconst (v := zI 0) hx hb dX0_act_93 (by decide +kernel) ?_
        exact g_iret hx hb hr hlocks hG (by have e9 : opAct a (v1 : Int) k z = (0, aSetT a []) := (by unfold opAct; rw [if_pos (by omega)]); rw [e9]; exact ⟨gLe.rfl (V := V), rfl, (hS.setT (fun r9 h8 h9 => va_up_ne _ _ h8) hT0).ex, rfl⟩) ⟨Nat.le_of_ble_eq_true rfl, Nat.le_of_ble_eq_true rfl⟩ dX0_act_94
    · exfalso; omega
  · refine g_ci (va_runV (As := [.int (zI v)]) (rest := []) ⟨hx, hb, hml, hown, hts⟩ (metX2_isRemark hW2 hK (by omega)) (cwV 1 hts (lw_V q704 q705 q706 q100 q707) rfl rfl rfl (by decide +kernel) ⟨Nat.le_of_ble_eq_true rfl, Nat.le_of_ble_eq_true rfl⟩) (g_preV hG (g_recv hG (hG.vo hw0) (ci := 2) rfl)) rfl rfl hl.1 rfl (lv_room (Nat.le_of_ble_eq_true rfl)) dX0_act_13 ⟨Nat.le_of_ble_eq_true rfl, Nat.le_of_ble_eq_true rfl⟩) hG (fun r_70 F_71 V_72 ws_ H locs hp hG => ?_)
    obtain ⟨rfl, rfl, rfl, rfl⟩ := hp
    have hG : gW X F (va_up V 2 (some (tr, oB 1 [.ref tb, .int (zI 0)]))) (Z) s H locs := hG
    refine g_topz (y := 0) (by rw [decide_eq_false (by omega)]; rfl) ?_
    refine g_ne (tgt := 21) hx hb dX0_act_16 (by decide) (by decide) (fun hq => ?_) (fun hq => ?_)
    · exfalso; omega
    · refine lv_iconst (v := zI 0) hx hb dX0_act_19 (by decide +kernel) ?_
      have hT0 : xTr X (va_up V 2 (some (tr, oB 1 [.ref tb, .int (zI 0)]))) tr tb [] := ⟨ht2, by decide, ft, ht3, fun i hi => absurd hi (Nat.not_lt_zero _)⟩
      exact g_iret hx hb hr hlocks hG (by have e9 : opAct a v k z = (0, aSetT a []) := (by unfold opAct; rw [if_pos (by omega)]); rw [e9]; exact ⟨gLe.rfl (V := V), rfl, (hS.setT (fun r9 h8 h9 => va_up_ne _ _ h8) hT0).ex, rfl⟩) ⟨Nat.le_of_ble_eq_true rfl, Nat.le_of_ble_eq_true rfl⟩ dX0_act_20

