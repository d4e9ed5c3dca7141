set_option maxRecDepth 100000
section G14
variable {s : State} {H : Heap} {locs : List Loc} {X : gX} {F : gF} {V : gV} {ws : va_W}
theorem rev_any (hG : gW X F V ws s H locs) {a : Nat} {i : gRv} (h : F.2 a = some i) : va_Any "LineRemarks$Revision" s H a := by
  obtain ⟨cell, h1, h2, h3⟩ := rev_recv hG h
  obtain ⟨kC, hkC, -⟩ := Vm.findClass_spec h3
  exact ⟨cell, h1, h2, ⟨kC, hkC⟩, fun comp hc => by cases h3.symm.trans hc; exact va_asg _ _⟩
theorem rm_any (hG : gW X F V ws s H locs) {a kd : Nat} {fs : List Value} (hkd : kd ≤ 6) (h : F.1 a = some (oB (14 + kd) fs)) : va_Any "LineRemarks$Remark" s H a := by
  obtain ⟨cell, h1, h2, h3⟩ := rm_recv hG hkd h
  obtain ⟨kC, hkC, -⟩ := Vm.findClass_spec h3
  exact ⟨cell, h1, h2, ⟨kC, hkC⟩, fun comp hc => rm_asg hG hkd comp _ hc h3⟩
end G14
set_option maxHeartbeats 4000000 in
theorem metX2_draw {l : Launch} {X : gX} {F : gF} {V : gV} {Z : va_W} {n : Nat} {wa rv rk st : Nat} {ra la ma : Nat → Nat} {w : aW} (hW : xWd X F V 4 w wa rv rk st ra la ma) (hK : wOK w) (hn : 0 < n ∧ n < 65536) : Met l yX2_draw (ws_ yX2_draw cX2_draw 2 (some FieldType.int)) ({ frames := 0, cells := 0, slots := 0, locals := 0 }) (gP X F V (Z) [.ref wa, .int (zI (n : Int))]) (gQi X (fun u G U ws => u = zI ((hi16 (sDraw (wSeed w)) % n : Nat) : Int) ∧ F = G ∧ xWd X F U 4 (wSeedTo w (sDraw (wSeed w))) wa rv rk st ra la ma ∧ vxB 4 V U ∧ Z = ws)) 0 0 (gA X) := by
  refine Met.g (by decide) (Nat.le_of_ble_eq_true rfl) ?_
  intro p e s m below meth c ls hx hb hr hts hown hlocks hml hin hG hl
  have hl : lv_has ls 2 [(0, .ref wa), (1, .int (zI (n : Int)))] := hl
  obtain ⟨hw0, ⟨fR, hw1, hwR⟩, ⟨fM, hw2, hwM⟩, ⟨fS, hw3, hwS⟩, hR, hMk⟩ := hW
  have hw1 : V 5 = some (rv, aR (gT X 7) 16 fR) := hw1
  have hw2 : V 6 = some (rk, aR (gT X 8) 16 fM) := hw2
  have hw3 : V 7 = some (st, aI (gT X 5) 16 fS) := hw3
  have hwE : V 4 = some (wa, xwE w rv rk st) := hw0
  obtain ⟨vv, hvs⟩ : ∃ v, v = sDraw (wSeed w) := ⟨_, rfl⟩
  have hvv : wSeed w * zI 1103515245 + zI 12345 = vv := by rw [hvs]; unfold sDraw; rfl
  refine lv_aload_n hx hb dX2_draw_0 rfl (lv_at hl 0 rfl) ?_
  refine lv_aload_n hx hb dX2_draw_1 rfl (lv_at hl 0 rfl) ?_
  refine g_get (ci := 2) hx hb hts in_X2 hown hG (hG.vo hw0) rfl 5 (Nat.le_of_ble_eq_true rfl) (hts _ q346) (fun _ h9 => h9) rfl dX2_draw_2 ?_
  refine lv_ldc (v := 1103515245) hx hb hown (hts _ q3147) dX2_draw_5 ?_
  refine lv_topx (zI 1103515245) (by decide +kernel) ?_
  refine lv_imul hx hb dX2_draw_7 ?_
  refine lv_sipush (v := zI 12345) hx hb dX2_draw_8 (by decide +kernel) ?_
  refine lv_iadd hx hb dX2_draw_11 ?_
  refine lv_topx vv hvv ?_
  refine g_putV (ci := 2) hx hb hts in_X2 tyX2 tyX2_ok nmX2 hown hG hw0 rfl 5 (Nat.le_of_ble_eq_true rfl) (hts _ q346) (fun _ h9 => h9) rfl (tyX2_ok 5 (Nat.le_of_ble_eq_true rfl)) rfl rfl (Nat.le_of_ble_eq_true rfl) dX2_draw_12 (fun H locs (hG : gW X F (va_up V 4 (some (wa, oB 2 [.int (zI (wN w : Int)), .int (zI (wM w : Int)), .int (zI (wRun w : Int)), .int (zI (wNeed w : Int)), .int (zI (wMar w : Int)), .int vv, .ref rv, .ref rk, .ref st]))) (Z) s H locs) => ?_)
  have hw1 : (va_up V 4 (some (wa, oB 2 [.int (zI (wN w : Int)), .int (zI (wM w : Int)), .int (zI (wRun w : Int)), .int (zI (wNeed w : Int)), .int (zI (wMar w : Int)), .int vv, .ref rv, .ref rk, .ref st]))) 5 = some (rv, aR (gT X 7) 16 fR) := (vun (by decide)).trans hw1
  have hw2 : (va_up V 4 (some (wa, oB 2 [.int (zI (wN w : Int)), .int (zI (wM w : Int)), .int (zI (wRun w : Int)), .int (zI (wNeed w : Int)), .int (zI (wMar w : Int)), .int vv, .ref rv, .ref rk, .ref st]))) 6 = some (rk, aR (gT X 8) 16 fM) := (vun (by decide)).trans hw2
  have hw3 : (va_up V 4 (some (wa, oB 2 [.int (zI (wN w : Int)), .int (zI (wM w : Int)), .int (zI (wRun w : Int)), .int (zI (wNeed w : Int)), .int (zI (wMar w : Int)), .int vv, .ref rv, .ref rk, .ref st]))) 7 = some (st, aI (gT X 5) 16 fS) := (vun (by decide)).trans hw3
  have hw0 : (va_up V 4 (some (wa, oB 2 [.int (zI (wN w : Int)), .int (zI (wM w : Int)), .int (zI (wRun w : Int)), .int (zI (wNeed w : Int)), .int (zI (wMar w : Int)), .int vv, .ref rv, .ref rk, .ref st]))) 4 = some (wa, oB 2 [.int (zI (wN w : Int)), .int (zI (wM w : Int)), .int (zI (wRun w : Int)), .int (zI (wNeed w : Int)), .int (zI (wMar w : Int)), .int vv, .ref rv, .ref rk, .ref st]) := vus
  refine lv_aload_n hx hb dX2_draw_15 rfl (lv_at hl 0 rfl) ?_
  refine g_get (ci := 2) hx hb hts in_X2 hown hG (hG.vo hw0) rfl 5 (Nat.le_of_ble_eq_true rfl) (hts _ q346) (fun _ h9 => h9) rfl dX2_draw_16 ?_
  refine lv_bipush (v := zI 16) hx hb dX2_draw_19 (by decide +kernel) ?_
  refine lv_iushr (v := (vv.toUInt32 >>> ((zI 16).toUInt32 &&& Int32.toUInt32 31)).toInt32) hx hb dX2_draw_21 rfl ?_
  obtain ⟨hh16, hhs⟩ : ∃ z, z = hi16 vv := ⟨_, rfl⟩
  have hh : hh16 < 65536 := by rw [hhs]; exact hi16_lt vv
  refine lv_topx (zI ((hh16 : Nat) : Int)) (by rw [hhs]; exact hi16_z _) ?_
  refine lv_iload_n hx hb dX2_draw_22 rfl (lv_at hl 1 rfl) ?_
  refine lv_irem hx hb dX2_draw_23 (fun q => by have q := (zI_eq ⟨⟨by omega, by omega⟩, by decide⟩).mp (q.trans zI_0); omega) ?_
  refine lv_topx (zI ((hh16 % n : Nat) : Int)) (zI_rem _ _ (by omega) ⟨by omega, by omega⟩) ?_
  exact g_iret hx hb hr hlocks hG (by rw [← hvs, ← hhs]; exact ⟨rfl, rfl, ⟨hw0, ⟨fR, hw1, hwR⟩, ⟨fM, hw2, hwM⟩, ⟨fS, hw3, hwS⟩, hR, hMk⟩, vxB.rf.up (by omega), rfl⟩) ⟨Nat.le_of_ble_eq_true rfl, Nat.le_of_ble_eq_true rfl⟩ dX2_draw_24

set_option maxHeartbeats 4000000 in
theorem metX2_depth {l : Launch} {X : gX} {F : gF} {V : gV} {Z : va_W} {x : Nat} {wa rv rk st : Nat} {ra la ma : Nat → Nat} {w : aW} (hW : xWd X F V 4 w wa rv rk st ra la ma) (hK : wOK w) (k : Nat) (hxm : x < wM w) (hxk : x < k) : Met l yX2_depth (ws_ yX2_depth cX2_depth 3 (some FieldType.int)) ({ frames := k, cells := 0, slots := 0, locals := 22 * k }) (gP X F V (Z) [.ref wa, .int (zI (x : Int))]) (gQi X (fun u G U ws => u = zI (dpF w (x + 1) x : Int) ∧ F = G ∧ V = U ∧ Z = ws)) 0 0 (gA X) := by
  induction k generalizing x with
  | zero => exact absurd hxk (Nat.not_lt_zero _)
  | succ k ih =>
    refine Met.g (by decide) (Nat.le_of_ble_eq_true rfl) ?_
    intro p e s m below meth c ls hx hb hr hts hown hlocks hml hin hG hl
    have hl : lv_has ls 3 [(0, .ref wa), (1, .int (zI (x : Int)))] := hl
    have hMM := hK.m
    obtain ⟨hw0, ⟨fR, hw1, hwR⟩, ⟨fM, hw2, hwM⟩, ⟨fS, hw3, hwS⟩, hR, hMk⟩ := hW
    have hw1 : V 5 = some (rv, aR (gT X 7) 16 fR) := hw1
    have hw2 : V 6 = some (rk, aR (gT X 8) 16 fM) := hw2
    have hw3 : V 7 = some (st, aI (gT X 5) 16 fS) := hw3
    have hwE : V 4 = some (wa, xwE w rv rk st) := hw0
    refine lv_aload_n hx hb dX2_depth_0 rfl (lv_at hl 0 rfl) ?_
    refine g_get (ci := 2) hx hb hts in_X2 hown hG (hG.vo hw0) rfl 7 (Nat.le_of_ble_eq_true rfl) (hts _ q350) (fun _ h9 => h9) rfl dX2_depth_1 ?_
    refine lv_iload_n hx hb dX2_depth_4 rfl (lv_at hl 1 rfl) ?_
    refine g_aald hx hb hG 8 rfl rfl (hG.vo hw2) x ⟨rfl, by omega, by omega⟩ (v := .ref (ma x)) (congrArg va_rf (hwM x (by omega))) dX2_depth_5 ?_
    have hrk1 := hK.rk (m := x) (by omega)
    refine g_rmget hx hb hrk1.1 hts hown hG (hG.fz (hMk x (by omega))) 5 (by decide) (hts _ q2099) rfl dX2_depth_6 ?_
    refine lv_istore_n (lv' := [(2, .int (zI (oI (rAns (wRk w x))))), (0, .ref wa), (1, .int (zI (x : Int)))]) hx hb dX2_depth_9 rfl hl (by decide) rfl (fun ls hl => ?_)
    rcases ha : rAns (wRk w x) with _ | y
    · have hl : lv_has ls 3 [(2, .int (zI (-1))), (0, .ref wa), (1, .int (zI (x : Int)))] := by rw [ha] at hl; exact hl
      refine lv_iload_n hx hb dX2_depth_10 rfl (lv_at hl 0 rfl) ?_
      refine lv_iconst (v := zI (-1)) hx hb dX2_depth_11 (by decide +kernel) ?_
      refine g_cne (tgt := 19) hx hb dX2_depth_12 (by decide) (by omega) (fun h1 => ?_) (fun h1 => ?_)
      · exfalso; omega
      · refine lv_iconst (v := zI 0) hx hb dX2_depth_15 (by decide +kernel) ?_
        refine lv_goto (tgt := 26) hx hb dX2_depth_16 (by decide) ?_
        exact g_iret hx hb hr hlocks hG (⟨by rw [dpF_O hK hxm, ha]; rfl, rfl, rfl, rfl⟩) ⟨Nat.le_of_ble_eq_true rfl, Nat.le_of_ble_eq_true rfl⟩ dX2_depth_26
    · have hl : lv_has ls 3 [(2, .int (zI (y : Int))), (0, .ref wa), (1, .int (zI (x : Int)))] := by rw [ha] at hl; exact hl
      have hyx := hK.ra hxm ha
      refine lv_iload_n hx hb dX2_depth_10 rfl (lv_at hl 0 rfl) ?_
      refine lv_iconst (v := zI (-1)) hx hb dX2_depth_11 (by decide +kernel) ?_
      refine g_cne (tgt := 19) hx hb dX2_depth_12 (by decide) (by omega) (fun h1 => ?_) (fun h1 => ?_)
      · refine lv_iconst (v := zI 1) hx hb dX2_depth_19 (by decide +kernel) ?_
        refine lv_aload_n hx hb dX2_depth_20 rfl (lv_at hl 1 rfl) ?_
        refine lv_iload_n hx hb dX2_depth_21 rfl (lv_at hl 0 rfl) ?_
        refine g_ci (va_runV (As := [.int (zI (y : Int))]) (rest := [.int (zI 1)]) ⟨hx, hb, hml, hown, hts⟩ (ih (x := y) (by omega) (by omega)) (cwV 1 hts (lw_V q2223 q2220 q2221 q100 q2222) rfl rfl rfl (by decide +kernel) ⟨by show k + 1 ≤ k + 1; omega, by show 8 + (3 + 11) + 22 * k ≤ 22 * (k + 1); omega⟩) (g_preV hG (g_recv hG (hG.vo hw0) (ci := 2) rfl)) rfl rfl hl.1 rfl (lv_room (Nat.le_of_ble_eq_true rfl)) dX2_depth_22 ⟨Nat.le_of_ble_eq_true rfl, Nat.le_of_ble_eq_true rfl⟩) hG (fun r_2 F_3 V_4 ws_ H locs hp hG => ?_)
        obtain ⟨rfl, rfl, rfl, rfl⟩ := hp
        have hG : gW X F V (Z) s H locs := hG
        refine g_iadd hx hb dX2_depth_25 ?_
        exact g_iret hx hb hr hlocks hG (⟨by rw [dpF_O hK hxm, ha]; exact congrArg zI (show (1 : Int) + _ = ((dpF w (y + 1) y + 1 : Nat) : Int) by omega), rfl, rfl, rfl⟩) ⟨Nat.le_of_ble_eq_true rfl, Nat.le_of_ble_eq_true rfl⟩ dX2_depth_26
      · exfalso; omega
  
set_option maxHeartbeats 4000000 in
theorem metX2_init {l : Launch} {X : gX} {F : gF} {V : gV} {Z : va_W} {wa : Nat} : Met l yX2_init (ws_ yX2_init cX2_init 1 none) ({ frames := 1, cells := 3, slots := 48, locals := 20 }) (gP X F V ((wa, oB 2 [.int (zI 0), .int (zI 0), .int (zI 0), .int (zI 0), .int (zI 0), .int (zI 0), .null, .null, .null]) :: Z) [.ref wa]) (gQv X (fun G U ws => F = G ∧ V = U ∧ ∃ rv rk st : Nat, ((wa, oB 2 [.int (zI 0), .int (zI 0), .int (zI 2), .int (zI 6), .int (zI 1), .int (zI 1), .ref rv, .ref rk, .ref st]) :: (rv, aR (gT X 7) 16 (fun _ => none)) :: (rk, aR (gT X 8) 16 (fun _ => none)) :: (st, aI (gT X 5) 16 (fun _ => 0)) :: Z) = ws)) 3 48 (gA X) := by
  refine Met.g (by decide) (Nat.le_of_ble_eq_true rfl) ?_
  intro p e s m below meth c ls hx hb hr hts hown hlocks hml hin hG hl
  have hl : lv_has ls 1 [(0, .ref wa)] := hl
  refine lv_aload_n hx hb dX2_init_0 rfl (lv_at hl 0 rfl) ?_
  refine W.objInit hx hb hown (hts _ q328) (hts _ q170) (hts _ q171) rfl (by rw [hml]; exact hl.1) rfl dX2_init_1 (Nat.le_of_ble_eq_true rfl) (Nat.le_of_ble_eq_true rfl) ?_
  refine W.eq (g2 := F0 m 4 ls []) rfl ?_
  refine lv_aload_n hx hb dX2_init_4 rfl (lv_at hl 0 rfl) ?_
  refine lv_iconst (v := zI 2) hx hb dX2_init_5 (by decide +kernel) ?_
  refine g_put (ci := 2) hx hb hts in_X2 tyX2 tyX2_ok nmX2 hown hG 0 rfl rfl 2 (Nat.le_of_ble_eq_true rfl) (hts _ q337) (fun _ h9 => h9) rfl (tyX2_ok 2 (Nat.le_of_ble_eq_true rfl)) rfl rfl (Nat.le_of_ble_eq_true rfl) dX2_init_6 (fun H locs (hG : gW X F V ((wa, oB 2 [.int (zI 0), .int (zI 0), .int (zI 2), .int (zI 0), .int (zI 0), .int (zI 0), .null, .null, .null]) :: Z) s H locs) => ?_)
  refine lv_aload_n hx hb dX2_init_9 rfl (lv_at hl 0 rfl) ?_
  refine lv_bipush (v := zI 6) hx hb dX2_init_10 (by decide +kernel) ?_
  refine g_put (ci := 2) hx hb hts in_X2 tyX2 tyX2_ok nmX2 hown hG 0 rfl rfl 3 (Nat.le_of_ble_eq_true rfl) (hts _ q340) (fun _ h9 => h9) rfl (tyX2_ok 3 (Nat.le_of_ble_eq_true rfl)) rfl rfl (Nat.le_of_ble_eq_true rfl) dX2_init_12 (fun H locs (hG : gW X F V ((wa, oB 2 [.int (zI 0), .int (zI 0), .int (zI 2), .int (zI 6), .int (zI 0), .int (zI 0), .null, .null, .null]) :: Z) s H locs) => ?_)
  refine lv_aload_n hx hb dX2_init_15 rfl (lv_at hl 0 rfl) ?_
  refine lv_iconst (v := zI 1) hx hb dX2_init_16 (by decide +kernel) ?_
  refine g_put (ci := 2) hx hb hts in_X2 tyX2 tyX2_ok nmX2 hown hG 0 rfl rfl 4 (Nat.le_of_ble_eq_true rfl) (hts _ q343) (fun _ h9 => h9) rfl (tyX2_ok 4 (Nat.le_of_ble_eq_true rfl)) rfl rfl (Nat.le_of_ble_eq_true rfl) dX2_init_17 (fun H locs (hG : gW X F V ((wa, oB 2 [.int (zI 0), .int (zI 0), .int (zI 2), .int (zI 6), .int (zI 1), .int (zI 0), .null, .null, .null]) :: Z) s H locs) => ?_)
  refine lv_aload_n hx hb dX2_init_20 rfl (lv_at hl 0 rfl) ?_
  refine lv_iconst (v := zI 1) hx hb dX2_init_21 (by decide +kernel) ?_
  refine g_put (ci := 2) hx hb hts in_X2 tyX2 tyX2_ok nmX2 hown hG 0 rfl rfl 5 (Nat.le_of_ble_eq_true rfl) (hts _ q346) (fun _ h9 => h9) rfl (tyX2_ok 5 (Nat.le_of_ble_eq_true rfl)) rfl rfl (Nat.le_of_ble_eq_true rfl) dX2_init_22 (fun H locs (hG : gW X F V ((wa, oB 2 [.int (zI 0), .int (zI 0), .int (zI 2), .int (zI 6), .int (zI 1), .int (zI 1), .null, .null, .null]) :: Z) s H locs) => ?_)
  refine lv_aload_n hx hb dX2_init_25 rfl (lv_at hl 0 rfl) ?_
  refine lv_bipush (v := zI 16) hx hb dX2_init_26 (by decide +kernel) ?_
  refine g_newq hx hb hown (hts _ q329) (hG.1.2.1.2.1 "LineRemarks$Revision" (by decide)) 7 rfl hG (N := 16) ⟨rfl, by omega⟩ ⟨Nat.le_of_ble_eq_true rfl, Nat.le_of_ble_eq_true rfl⟩ dX2_init_28 (fun rv H (hG : gW X F V ((rv, aR (gT X 7) 16 (fun _ => none)) :: (wa, oB 2 [.int (zI 0), .int (zI 0), .int (zI 2), .int (zI 6), .int (zI 1), .int (zI 1), .null, .null, .null]) :: Z) s H _) => ?_)
  refine g_putF (ci := 2) hx hb hts in_X2 tyX2 tyX2_ok nmX2 hown hin hG 1 rfl rfl 6 (Nat.le_of_ble_eq_true rfl) (hts _ q348) (fun _ h9 => h9) rfl rfl (tyX2_ok 6 (Nat.le_of_ble_eq_true rfl)) rfl rfl (Nat.le_of_ble_eq_true rfl) dX2_init_31 (fun H locs (hG : gW X F V ((rv, aR (gT X 7) 16 (fun _ => none)) :: (wa, oB 2 [.int (zI 0), .int (zI 0), .int (zI 2), .int (zI 6), .int (zI 1), .int (zI 1), .ref rv, .null, .null]) :: Z) s H locs) => ?_)
  refine lv_aload_n hx hb dX2_init_34 rfl (lv_at hl 0 rfl) ?_
  refine lv_bipush (v := zI 16) hx hb dX2_init_35 (by decide +kernel) ?_
  refine g_newq hx hb hown (hts _ q331) (hG.1.2.1.2.1 "LineRemarks$Remark" (by decide)) 8 rfl hG (N := 16) ⟨rfl, by omega⟩ ⟨Nat.le_of_ble_eq_true rfl, Nat.le_of_ble_eq_true rfl⟩ dX2_init_37 (fun rk H (hG : gW X F V ((rk, aR (gT X 8) 16 (fun _ => none)) :: (rv, aR (gT X 7) 16 (fun _ => none)) :: (wa, oB 2 [.int (zI 0), .int (zI 0), .int (zI 2), .int (zI 6), .int (zI 1), .int (zI 1), .ref rv, .null, .null]) :: Z) s H _) => ?_)
  refine g_putF (ci := 2) hx hb hts in_X2 tyX2 tyX2_ok nmX2 hown hin hG 2 rfl rfl 7 (Nat.le_of_ble_eq_true rfl) (hts _ q350) (fun _ h9 => h9) rfl rfl (tyX2_ok 7 (Nat.le_of_ble_eq_true rfl)) rfl rfl (Nat.le_of_ble_eq_true rfl) dX2_init_40 (fun H locs (hG : gW X F V ((rk, aR (gT X 8) 16 (fun _ => none)) :: (rv, aR (gT X 7) 16 (fun _ => none)) :: (wa, oB 2 [.int (zI 0), .int (zI 0), .int (zI 2), .int (zI 6), .int (zI 1), .int (zI 1), .ref rv, .ref rk, .null]) :: Z) s H locs) => ?_)
  refine lv_aload_n hx hb dX2_init_43 rfl (lv_at hl 0 rfl) ?_
  refine lv_bipush (v := zI 16) hx hb dX2_init_44 (by decide +kernel) ?_
  refine g_newa (atype := .boolean) hx hb (hts _ q373) 5 rfl rfl (fun h => h) hG (N := 16) (a0 := (16, .inl (fun _ => 0))) (fun _ => rfl) ⟨rfl, by omega⟩ (by decide) ⟨Nat.le_of_ble_eq_true rfl, Nat.le_of_ble_eq_true rfl⟩ dX2_init_46 (fun st H (hG : gW X F V ((st, aI (gT X 5) 16 (fun _ => 0)) :: (rk, aR (gT X 8) 16 (fun _ => none)) :: (rv, aR (gT X 7) 16 (fun _ => none)) :: (wa, oB 2 [.int (zI 0), .int (zI 0), .int (zI 2), .int (zI 6), .int (zI 1), .int (zI 1), .ref rv, .ref rk, .null]) :: Z) s H _) => ?_)
  refine g_putF (ci := 2) hx hb hts in_X2 tyX2 tyX2_ok nmX2 hown hin hG 3 rfl rfl 8 (Nat.le_of_ble_eq_true rfl) (hts _ q352) (fun _ h9 => h9) rfl rfl (tyX2_ok 8 (Nat.le_of_ble_eq_true rfl)) rfl rfl (Nat.le_of_ble_eq_true rfl) dX2_init_48 (fun H locs (hG : gW X F V ((st, aI (gT X 5) 16 (fun _ => 0)) :: (rk, aR (gT X 8) 16 (fun _ => none)) :: (rv, aR (gT X 7) 16 (fun _ => none)) :: (wa, oB 2 [.int (zI 0), .int (zI 0), .int (zI 2), .int (zI 6), .int (zI 1), .int (zI 1), .ref rv, .ref rk, .ref st]) :: Z) s H locs) => ?_)
  have hG : gW X F V ((rk, aR (gT X 8) 16 (fun _ => none)) :: (st, aI (gT X 5) 16 (fun _ => 0)) :: (rv, aR (gT X 7) 16 (fun _ => none)) :: (wa, oB 2 [.int (zI 0), .int (zI 0), .int (zI 2), .int (zI 6), .int (zI 1), .int (zI 1), .ref rv, .ref rk, .ref st]) :: Z) s _ _ := hG.pull 1 rfl rfl
  have hG : gW X F V ((rv, aR (gT X 7) 16 (fun _ => none)) :: (rk, aR (gT X 8) 16 (fun _ => none)) :: (st, aI (gT X 5) 16 (fun _ => 0)) :: (wa, oB 2 [.int (zI 0), .int (zI 0), .int (zI 2), .int (zI 6), .int (zI 1), .int (zI 1), .ref rv, .ref rk, .ref st]) :: Z) s _ _ := hG.pull 2 rfl rfl
  have hG : gW X F V ((wa, oB 2 [.int (zI 0), .int (zI 0), .int (zI 2), .int (zI 6), .int (zI 1), .int (zI 1), .ref rv, .ref rk, .ref st]) :: (rv, aR (gT X 7) 16 (fun _ => none)) :: (rk, aR (gT X 8) 16 (fun _ => none)) :: (st, aI (gT X 5) 16 (fun _ => 0)) :: Z) s _ _ := hG.pull 3 rfl rfl
  exact g_vret hx hb hr hlocks hG (⟨rfl, rfl, rv, rk, st, rfl⟩) ⟨Nat.le_of_ble_eq_true rfl, Nat.le_of_ble_eq_true rfl⟩ dX2_init_51

set_option maxHeartbeats 4000000 in
theorem metX2_take {l : Launch} {X : gX} {F : gF} {V : gV} {Z : va_W} {b wa rv rk st wt rvt rkt stt : Nat} {ra la ma : Nat → Nat} {w : aW} (hW : xWd X F V b w wt rvt rkt stt ra la ma) (hK : wOK w) : Met l yX2_take (ws_ yX2_take cX2_take 2 (some (FieldType.object "LineRemarks$World"))) ({ frames := 1, cells := 0, slots := 0, locals := 38 }) (gP X F V ((wa, oB 2 [.int (zI 0), .int (zI 0), .int (zI 2), .int (zI 6), .int (zI 1), .int (zI 1), .ref rv, .ref rk, .ref st]) :: (rv, aR (gT X 7) 16 (fun _ => none)) :: (rk, aR (gT X 8) 16 (fun _ => none)) :: (st, aI (gT X 5) 16 (fun _ => 0)) :: Z) [.ref wa, .ref wt]) (gQr X (fun u G U ws => u = wa ∧ F = G ∧ V = U ∧ ∃ (f9 g9 : Nat → Option Nat) (h9 : Nat → Int32), (∀ r, r < wN w → f9 r = some (ra r)) ∧ (∀ m, m < wM w → g9 m = some (ma m)) ∧ (∀ m, m < wM w → h9 m = zI (bI (wSt w m))) ∧ ((wa, oB 2 [.int (zI (wN w : Int)), .int (zI (wM w : Int)), .int (zI (wRun w : Int)), .int (zI (wNeed w : Int)), .int (zI (wMar w : Int)), .int (wSeed w), .ref rv, .ref rk, .ref st]) :: (rv, aR (gT X 7) 16 f9) :: (rk, aR (gT X 8) 16 g9) :: (st, aI (gT X 5) 16 h9) :: Z) = ws)) 0 0 (gA X) := by
  refine Met.g (by decide) (Nat.le_of_ble_eq_true rfl) ?_
  intro p e s m below meth c ls hx hb hr hts hown hlocks hml hin hG hl
  have hl : lv_has ls 2 [(0, .ref wa), (1, .ref wt)] := hl
  have hNN := hK.n
  have hMM := hK.m
  obtain ⟨hw0, ⟨fR, hw1, hwR⟩, ⟨fM, hw2, hwM⟩, ⟨fS, hw3, hwS⟩, hR, hMk⟩ := hW
  have hw1 : V (b + 1) = some (rvt, aR (gT X 7) 16 fR) := hw1
  have hw2 : V (b + 2) = some (rkt, aR (gT X 8) 16 fM) := hw2
  have hw3 : V (b + 3) = some (stt, aI (gT X 5) 16 fS) := hw3
  have hwE : V b = some (wt, xwE w rvt rkt stt) := hw0
  refine lv_aload_n hx hb dX2_take_0 rfl (lv_at hl 0 rfl) ?_
  refine lv_aload_n hx hb dX2_take_1 rfl (lv_at hl 1 rfl) ?_
  refine g_get (ci := 2) hx hb hts in_X2 hown hG (hG.vo hw0) rfl 0 (Nat.le_of_ble_eq_true rfl) (hts _ q333) (fun _ h9 => h9) rfl dX2_take_2 ?_
  refine g_put (ci := 2) hx hb hts in_X2 tyX2 tyX2_ok nmX2 hown hG 0 rfl rfl 0 (Nat.le_of_ble_eq_true rfl) (hts _ q333) (fun _ h9 => h9) rfl (tyX2_ok 0 (Nat.le_of_ble_eq_true rfl)) rfl rfl (Nat.le_of_ble_eq_true rfl) dX2_take_5 (fun H locs (hG : gW X F V ((wa, oB 2 [.int (zI (wN w : Int)), .int (zI 0), .int (zI 2), .int (zI 6), .int (zI 1), .int (zI 1), .ref rv, .ref rk, .ref st]) :: (rv, aR (gT X 7) 16 (fun _ => none)) :: (rk, aR (gT X 8) 16 (fun _ => none)) :: (st, aI (gT X 5) 16 (fun _ => 0)) :: Z) s H locs) => ?_)
  refine lv_aload_n hx hb dX2_take_8 rfl (lv_at hl 0 rfl) ?_
  refine lv_aload_n hx hb dX2_take_9 rfl (lv_at hl 1 rfl) ?_
  refine g_get (ci := 2) hx hb hts in_X2 hown hG (hG.vo hw0) rfl 1 (Nat.le_of_ble_eq_true rfl) (hts _ q335) (fun _ h9 => h9) rfl dX2_take_10 ?_
  refine g_put (ci := 2) hx hb hts in_X2 tyX2 tyX2_ok nmX2 hown hG 0 rfl rfl 1 (Nat.le_of_ble_eq_true rfl) (hts _ q335) (fun _ h9 => h9) rfl (tyX2_ok 1 (Nat.le_of_ble_eq_true rfl)) rfl rfl (Nat.le_of_ble_eq_true rfl) dX2_take_13 (fun H locs (hG : gW X F V ((wa, oB 2 [.int (zI (wN w : Int)), .int (zI (wM w : Int)), .int (zI 2), .int (zI 6), .int (zI 1), .int (zI 1), .ref rv, .ref rk, .ref st]) :: (rv, aR (gT X 7) 16 (fun _ => none)) :: (rk, aR (gT X 8) 16 (fun _ => none)) :: (st, aI (gT X 5) 16 (fun _ => 0)) :: Z) s H locs) => ?_)
  refine lv_aload_n hx hb dX2_take_16 rfl (lv_at hl 0 rfl) ?_
  refine lv_aload_n hx hb dX2_take_17 rfl (lv_at hl 1 rfl) ?_
  refine g_get (ci := 2) hx hb hts in_X2 hown hG (hG.vo hw0) rfl 2 (Nat.le_of_ble_eq_true rfl) (hts _ q337) (fun _ h9 => h9) rfl dX2_take_18 ?_
  refine g_put (ci := 2) hx hb hts in_X2 tyX2 tyX2_ok nmX2 hown hG 0 rfl rfl 2 (Nat.le_of_ble_eq_true rfl) (hts _ q337) (fun _ h9 => h9) rfl (tyX2_ok 2 (Nat.le_of_ble_eq_true rfl)) rfl rfl (Nat.le_of_ble_eq_true rfl) dX2_take_21 (fun H locs (hG : gW X F V ((wa, oB 2 [.int (zI (wN w : Int)), .int (zI (wM w : Int)), .int (zI (wRun w : Int)), .int (zI 6), .int (zI 1), .int (zI 1), .ref rv, .ref rk, .ref st]) :: (rv, aR (gT X 7) 16 (fun _ => none)) :: (rk, aR (gT X 8) 16 (fun _ => none)) :: (st, aI (gT X 5) 16 (fun _ => 0)) :: Z) s H locs) => ?_)
  refine lv_aload_n hx hb dX2_take_24 rfl (lv_at hl 0 rfl) ?_
  refine lv_aload_n hx hb dX2_take_25 rfl (lv_at hl 1 rfl) ?_
  refine g_get (ci := 2) hx hb hts in_X2 hown hG (hG.vo hw0) rfl 3 (Nat.le_of_ble_eq_true rfl) (hts _ q340) (fun _ h9 => h9) rfl dX2_take_26 ?_
  refine g_put (ci := 2) hx hb hts in_X2 tyX2 tyX2_ok nmX2 hown hG 0 rfl rfl 3 (Nat.le_of_ble_eq_true rfl) (hts _ q340) (fun _ h9 => h9) rfl (tyX2_ok 3 (Nat.le_of_ble_eq_true rfl)) rfl rfl (Nat.le_of_ble_eq_true rfl) dX2_take_29 (fun H locs (hG : gW X F V ((wa, oB 2 [.int (zI (wN w : Int)), .int (zI (wM w : Int)), .int (zI (wRun w : Int)), .int (zI (wNeed w : Int)), .int (zI 1), .int (zI 1), .ref rv, .ref rk, .ref st]) :: (rv, aR (gT X 7) 16 (fun _ => none)) :: (rk, aR (gT X 8) 16 (fun _ => none)) :: (st, aI (gT X 5) 16 (fun _ => 0)) :: Z) s H locs) => ?_)
  refine lv_aload_n hx hb dX2_take_32 rfl (lv_at hl 0 rfl) ?_
  refine lv_aload_n hx hb dX2_take_33 rfl (lv_at hl 1 rfl) ?_
  refine g_get (ci := 2) hx hb hts in_X2 hown hG (hG.vo hw0) rfl 4 (Nat.le_of_ble_eq_true rfl) (hts _ q343) (fun _ h9 => h9) rfl dX2_take_34 ?_
  refine g_put (ci := 2) hx hb hts in_X2 tyX2 tyX2_ok nmX2 hown hG 0 rfl rfl 4 (Nat.le_of_ble_eq_true rfl) (hts _ q343) (fun _ h9 => h9) rfl (tyX2_ok 4 (Nat.le_of_ble_eq_true rfl)) rfl rfl (Nat.le_of_ble_eq_true rfl) dX2_take_37 (fun H locs (hG : gW X F V ((wa, oB 2 [.int (zI (wN w : Int)), .int (zI (wM w : Int)), .int (zI (wRun w : Int)), .int (zI (wNeed w : Int)), .int (zI (wMar w : Int)), .int (zI 1), .ref rv, .ref rk, .ref st]) :: (rv, aR (gT X 7) 16 (fun _ => none)) :: (rk, aR (gT X 8) 16 (fun _ => none)) :: (st, aI (gT X 5) 16 (fun _ => 0)) :: Z) s H locs) => ?_)
  refine lv_aload_n hx hb dX2_take_40 rfl (lv_at hl 0 rfl) ?_
  refine lv_aload_n hx hb dX2_take_41 rfl (lv_at hl 1 rfl) ?_
  refine g_get (ci := 2) hx hb hts in_X2 hown hG (hG.vo hw0) rfl 5 (Nat.le_of_ble_eq_true rfl) (hts _ q346) (fun _ h9 => h9) rfl dX2_take_42 ?_
  refine g_put (ci := 2) hx hb hts in_X2 tyX2 tyX2_ok nmX2 hown hG 0 rfl rfl 5 (Nat.le_of_ble_eq_true rfl) (hts _ q346) (fun _ h9 => h9) rfl (tyX2_ok 5 (Nat.le_of_ble_eq_true rfl)) rfl rfl (Nat.le_of_ble_eq_true rfl) dX2_take_45 (fun H locs (hG : gW X F V ((wa, oB 2 [.int (zI (wN w : Int)), .int (zI (wM w : Int)), .int (zI (wRun w : Int)), .int (zI (wNeed w : Int)), .int (zI (wMar w : Int)), .int (wSeed w), .ref rv, .ref rk, .ref st]) :: (rv, aR (gT X 7) 16 (fun _ => none)) :: (rk, aR (gT X 8) 16 (fun _ => none)) :: (st, aI (gT X 5) 16 (fun _ => 0)) :: Z) s H locs) => ?_)
  refine lv_aload_n hx hb dX2_take_48 rfl (lv_at hl 1 rfl) ?_
  refine g_get (ci := 2) hx hb hts in_X2 hown hG (hG.vo hw0) rfl 6 (Nat.le_of_ble_eq_true rfl) (hts _ q348) (fun _ h9 => h9) rfl dX2_take_49 ?_
  refine lv_iconst (v := zI 0) hx hb dX2_take_52 (by decide +kernel) ?_
  refine lv_aload_n hx hb dX2_take_53 rfl (lv_at hl 0 rfl) ?_
  refine g_get (ci := 2) hx hb hts in_X2 hown hG (hG.at 0 rfl) rfl 6 (Nat.le_of_ble_eq_true rfl) (hts _ q348) (fun _ h9 => h9) rfl dX2_take_54 ?_
  refine lv_iconst (v := zI 0) hx hb dX2_take_57 (by decide +kernel) ?_
  refine lv_aload_n hx hb dX2_take_58 rfl (lv_at hl 0 rfl) ?_
  refine g_get (ci := 2) hx hb hts in_X2 hown hG (hG.at 0 rfl) rfl 0 (Nat.le_of_ble_eq_true rfl) (hts _ q333) (fun _ h9 => h9) rfl dX2_take_59 ?_
  refine g_copyQ hx hb (hml.trans hl.1.symm) hown (hts _ q3267) (hts _ q676) (hts _ q675) (hts _ q117) hG 7 rfl (hG.vo hw1) 1 rfl 0 0 (wN w) ⟨rfl, rfl, rfl, by omega, by omega, by omega, by omega⟩ (fun i9 hi9 y9 hy9 => by rw [Nat.zero_add, hwR i9 hi9] at hy9; cases hy9; exact rev_any hG (hR i9 hi9).1) ⟨Nat.le_of_ble_eq_true rfl, Nat.le_of_ble_eq_true rfl⟩ dX2_take_62 (fun H locs (hG : gW X F V ((wa, oB 2 [.int (zI (wN w : Int)), .int (zI (wM w : Int)), .int (zI (wRun w : Int)), .int (zI (wNeed w : Int)), .int (zI (wMar w : Int)), .int (wSeed w), .ref rv, .ref rk, .ref st]) :: (rv, aR (gT X 7) 16 (va_cpy fR (fun _ => none) 0 0 (wN w))) :: (rk, aR (gT X 8) 16 (fun _ => none)) :: (st, aI (gT X 5) 16 (fun _ => 0)) :: Z) s H locs) => ?_)
  refine lv_aload_n hx hb dX2_take_65 rfl (lv_at hl 1 rfl) ?_
  refine g_get (ci := 2) hx hb hts in_X2 hown hG (hG.vo hw0) rfl 7 (Nat.le_of_ble_eq_true rfl) (hts _ q350) (fun _ h9 => h9) rfl dX2_take_66 ?_
  refine lv_iconst (v := zI 0) hx hb dX2_take_69 (by decide +kernel) ?_
  refine lv_aload_n hx hb dX2_take_70 rfl (lv_at hl 0 rfl) ?_
  refine g_get (ci := 2) hx hb hts in_X2 hown hG (hG.at 0 rfl) rfl 7 (Nat.le_of_ble_eq_true rfl) (hts _ q350) (fun _ h9 => h9) rfl dX2_take_71 ?_
  refine lv_iconst (v := zI 0) hx hb dX2_take_74 (by decide +kernel) ?_
  refine lv_aload_n hx hb dX2_take_75 rfl (lv_at hl 0 rfl) ?_
  refine g_get (ci := 2) hx hb hts in_X2 hown hG (hG.at 0 rfl) rfl 1 (Nat.le_of_ble_eq_true rfl) (hts _ q335) (fun _ h9 => h9) rfl dX2_take_76 ?_
  refine g_copyQ hx hb (hml.trans hl.1.symm) hown (hts _ q3267) (hts _ q676) (hts _ q675) (hts _ q117) hG 8 rfl (hG.vo hw2) 2 rfl 0 0 (wM w) ⟨rfl, rfl, rfl, by omega, by omega, by omega, by omega⟩ (fun i9 hi9 y9 hy9 => by rw [Nat.zero_add, hwM i9 hi9] at hy9; cases hy9; exact rm_any hG (hK.rk hi9).1 (hMk i9 hi9)) ⟨Nat.le_of_ble_eq_true rfl, Nat.le_of_ble_eq_true rfl⟩ dX2_take_79 (fun H locs (hG : gW X F V ((wa, oB 2 [.int (zI (wN w : Int)), .int (zI (wM w : Int)), .int (zI (wRun w : Int)), .int (zI (wNeed w : Int)), .int (zI (wMar w : Int)), .int (wSeed w), .ref rv, .ref rk, .ref st]) :: (rv, aR (gT X 7) 16 (va_cpy fR (fun _ => none) 0 0 (wN w))) :: (rk, aR (gT X 8) 16 (va_cpy fM (fun _ => none) 0 0 (wM w))) :: (st, aI (gT X 5) 16 (fun _ => 0)) :: Z) s H locs) => ?_)
  refine lv_aload_n hx hb dX2_take_82 rfl (lv_at hl 1 rfl) ?_
  refine g_get (ci := 2) hx hb hts in_X2 hown hG (hG.vo hw0) rfl 8 (Nat.le_of_ble_eq_true rfl) (hts _ q352) (fun _ h9 => h9) rfl dX2_take_83 ?_
  refine lv_iconst (v := zI 0) hx hb dX2_take_86 (by decide +kernel) ?_
  refine lv_aload_n hx hb dX2_take_87 rfl (lv_at hl 0 rfl) ?_
  refine g_get (ci := 2) hx hb hts in_X2 hown hG (hG.at 0 rfl) rfl 8 (Nat.le_of_ble_eq_true rfl) (hts _ q352) (fun _ h9 => h9) rfl dX2_take_88 ?_
  refine lv_iconst (v := zI 0) hx hb dX2_take_91 (by decide +kernel) ?_
  refine lv_aload_n hx hb dX2_take_92 rfl (lv_at hl 0 rfl) ?_
  refine g_get (ci := 2) hx hb hts in_X2 hown hG (hG.at 0 rfl) rfl 1 (Nat.le_of_ble_eq_true rfl) (hts _ q335) (fun _ h9 => h9) rfl dX2_take_93 ?_
  refine g_copyI hx hb (hml.trans hl.1.symm) hown (hts _ q3267) (hts _ q676) (hts _ q675) (hts _ q117) hG 5 rfl rfl (hG.vo hw3) 3 rfl 0 0 (wM w) ⟨rfl, rfl, rfl, by omega, by omega, by omega, by omega⟩ (fun i9 hi9 => by rw [Nat.zero_add, hwS i9 hi9]; cases wSt w i9 <;> decide) ⟨Nat.le_of_ble_eq_true rfl, Nat.le_of_ble_eq_true rfl⟩ dX2_take_96 (fun H locs (hG : gW X F V ((wa, oB 2 [.int (zI (wN w : Int)), .int (zI (wM w : Int)), .int (zI (wRun w : Int)), .int (zI (wNeed w : Int)), .int (zI (wMar w : Int)), .int (wSeed w), .ref rv, .ref rk, .ref st]) :: (rv, aR (gT X 7) 16 (va_cpy fR (fun _ => none) 0 0 (wN w))) :: (rk, aR (gT X 8) 16 (va_cpy fM (fun _ => none) 0 0 (wM w))) :: (st, aI (gT X 5) 16 (va_cpy fS (fun _ => 0) 0 0 (wM w))) :: Z) s H locs) => ?_)
  refine lv_aload_n hx hb dX2_take_99 rfl (lv_at hl 0 rfl) ?_
  exact g_rret hx hb hr (Or.inl ⟨_, rfl⟩) hlocks hG (⟨rfl, rfl, rfl, _, _, _, fun r hr => by show (if 0 ≤ r ∧ r < 0 + wN w then fR (0 + (r - 0)) else none) = _; rw [if_pos (by omega), Nat.sub_zero, Nat.zero_add]; exact hwR r hr, fun m hm => by show (if 0 ≤ m ∧ m < 0 + wM w then fM (0 + (m - 0)) else none) = _; rw [if_pos (by omega), Nat.sub_zero, Nat.zero_add]; exact hwM m hm, fun m hm => by show (if 0 ≤ m ∧ m < 0 + wM w then fS (0 + (m - 0)) else 0) = _; rw [if_pos (by omega), Nat.sub_zero, Nat.zero_add]; exact hwS m hm, rfl⟩) ⟨Nat.le_of_ble_eq_true rfl, Nat.le_of_ble_eq_true rfl⟩ dX2_take_100

