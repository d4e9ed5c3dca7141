set_option maxRecDepth 100000
theorem bI_n {b : Bool} (h : bI b ≠ 0) : b = true := by cases b; exact absurd rfl h; rfl
theorem bI_z {b : Bool} (h : ¬ bI b ≠ 0) : b = false := by cases b; rfl; exact absurd (by decide) h
set_option maxHeartbeats 500000 in
theorem metX0_toMake {l : Launch} {X : gX} {F : gF} {V : gV} {Z : va_W} {x sa rf tr tb kl wa rv rk st : Nat} {sh ra la ma : Nat → Nat} {im : Option Nat} {a : aS} (hS : xS X F V x a sa rf tr tb kl wa rv rk st sh ra la ma im) (hA : aOK a) {v1 : Nat} (hv9 : v1 < wN (aWd a)) : Met l yX0_toMake (ws_ yX0_toMake cX0_toMake 4 (some FieldType.int)) ({ frames := 0, cells := 0, slots := 0, locals := 0 }) (gP X F V (Z) [.ref x, .ref (ra v1)]) (gQi X (fun u G U ws => u = zI ((cnB (agP (aWd a) v1) (wM (aWd a)) : Nat) : Int) ∧ F = G ∧ V = U ∧ Z = ws)) 0 0 (gA X) := by
  refine Met.g (by decide) (Nat.le_of_ble_eq_true rfl) ?_
  intro p e s m below meth c ls hx hb hr hts hown hlocks hml hin hG hl
  have hl : lv_has ls 4 [(0, .ref x), (1, .ref (ra v1))] := hl
  have hSA := hS
  obtain ⟨hx0, ⟨fs9, hx1, hsh⟩, ⟨gr9, hx2, hgr⟩, hx3, hx4, hW, hx6, hx7⟩ := hSA
  have hSA := hS
  have hK := hA.w
  have hNN := hK.n
  have hMM := hK.m
  obtain ⟨hw0, ⟨fR, hw1, hwR⟩, ⟨fM, hw2, hwM⟩, ⟨fS, hw3, hwS⟩, hR, hMk⟩ := id hW
  have hw0 : V 4 = some (wa, oB 2 [.int (zI (wN (aWd a) : Int)), .int (zI (wM (aWd a) : Int)), .int (zI (wRun (aWd a) : Int)), .int (zI (wNeed (aWd a) : Int)), .int (zI (wMar (aWd a) : Int)), .int (wSeed (aWd a)), .ref rv, .ref rk, .ref st]) := hw0
  have hw1 : V 5 = some (rv, aR (gT X 7) 16 fR) := hw1
  have hw2 : V 6 = some (rk, aR (gT X 8) 16 fM) := hw2
  have hw3 : V 7 = some (st, aI (gT X 5) 16 fS) := hw3
  refine lv_iconst (v := zI 0) hx hb dX0_toMake_0 (by decide +kernel) ?_
  refine lv_istore_n (lv' := [(2, .int (zI 0)), (0, .ref x), (1, .ref (ra v1))]) hx hb dX0_toMake_1 rfl hl (by decide) rfl (fun ls hl => ?_)
  refine lv_iconst (v := zI 0) hx hb dX0_toMake_2 (by decide +kernel) ?_
  refine lv_istore_n (lv' := [(3, .int (zI 0)), (2, .int (zI 0)), (0, .ref x), (1, .ref (ra v1))]) hx hb dX0_toMake_3 rfl hl (by decide) rfl (fun ls hl => ?_)
  have hl : lv_has ls 4 [(3, .int (zI ((0 : Nat) : Int))), (2, .int (zI ((0 : Nat) : Int))), (0, .ref x), (1, .ref (ra v1))] := by exact hl
  refine g_loop (fun mz H locs ls => ∃ (k : Nat), (k ≤ wM (aWd a) ∧ mz = wM (aWd a) - k) ∧ gW X F V (Z) s H locs ∧ lv_has ls 4 [(0, .ref x), (1, .ref (ra v1)), (2, .int (zI ((cnB (agP (aWd a) v1) k : Nat) : Int))), (3, .int (zI ((k : Nat) : Int)))]) (wM (aWd a) - 0) ⟨0, ⟨Nat.zero_le _, rfl⟩, hG, (lv_sub hl [2, 3, 1, 0] rfl)⟩ (fun mz ihA H locs ls hI => ?_)
  obtain ⟨k, ⟨hk, hmz⟩, hG, hl⟩ := hI
  have hcl := cnB_le (agP (aWd a) v1) k
  refine lv_iload_n hx hb dX0_toMake_4 rfl (lv_at hl 3 rfl) ?_
  refine lv_aload_n hx hb dX0_toMake_5 rfl (lv_at hl 0 rfl) ?_
  refine g_get (ci := 0) hx hb hts in_X0 hown hG (hG.vo hx0) rfl 4 (Nat.le_of_ble_eq_true rfl) (hts _ q388) (fun _ h9 => h9) rfl dX0_toMake_6 ?_
  refine g_get (ci := 2) hx hb hts in_X2 hown hG (hG.vo hw0) rfl 1 (Nat.le_of_ble_eq_true rfl) (hts _ q336) (fun _ h9 => h9) rfl dX0_toMake_9 ?_
  refine g_cge (tgt := 57) hx hb dX0_toMake_12 (by decide) (by omega) (fun h1 => ?_) (fun h1 => ?_)
  · have hkM : k = wM (aWd a) := by omega
    refine lv_iload_n hx hb dX0_toMake_57 rfl (lv_at hl 2 rfl) ?_
    exact g_iret hx hb hr hlocks hG (⟨by rw [hkM] <;> rfl, rfl, rfl, rfl⟩) ⟨Nat.le_of_ble_eq_true rfl, Nat.le_of_ble_eq_true rfl⟩ dX0_toMake_58
  · refine lv_iload_n hx hb dX0_toMake_15 rfl (lv_at hl 2 rfl) ?_
    refine lv_aload_n hx hb dX0_toMake_16 rfl (lv_at hl 0 rfl) ?_
    refine g_get (ci := 0) hx hb hts in_X0 hown hG (hG.vo hx0) rfl 4 (Nat.le_of_ble_eq_true rfl) (hts _ q388) (fun _ h9 => h9) rfl dX0_toMake_17 ?_
    refine g_get (ci := 2) hx hb hts in_X2 hown hG (hG.vo hw0) rfl 7 (Nat.le_of_ble_eq_true rfl) (hts _ q351) (fun _ h9 => h9) rfl dX0_toMake_20 ?_
    refine lv_iload_n hx hb dX0_toMake_23 rfl (lv_at hl 3 rfl) ?_
    have hv99 := hv9
    refine g_aald hx hb hG 8 rfl rfl (hG.vo hw2) k ⟨rfl, by omega, by omega⟩ (v := .ref (ma k)) (congrArg va_rf (hwM k (by omega))) dX0_toMake_24 ?_
    have hrkk := hK.rk (m := k) (by omega)
    have hrmk := hMk k (by omega)
    have hkdk := hrkk.1
    refine g_rmget hx hb hkdk hts hown hG (hG.fz hrmk) 2 (by decide) (hts _ q2084) rfl dX0_toMake_25 ?_
    refine lv_aload_n hx hb dX0_toMake_28 rfl (lv_at hl 1 rfl) ?_
    refine lv_acmp_ne (rx := (some (ra (rOn (wRk (aWd a) k))))) (ry := (some (ra v1))) (tgt := 48) hx hb dX0_toMake_29 (by decide) (fun h2 => ?_) (fun h2 => ?_)
    · have hb9 : agP (aWd a) v1 k = false := by unfold agP; rw [decide_eq_false (fun q => h2 (by rw [q]))]; rfl
      refine lv_iconst (v := zI 0) hx hb dX0_toMake_48 (by decide +kernel) ?_
      refine g_iadd hx hb dX0_toMake_49 ?_
      refine g_topz (y := ((cnB (agP (aWd a) v1) (k + 1) : Nat) : Int)) (by rw [cnB_f hb9]; omega) ?_
      refine lv_istore_n (lv' := [(2, .int (zI ((cnB (agP (aWd a) v1) (k + 1) : Nat) : Int))), (0, .ref x), (1, .ref (ra v1)), (3, .int (zI ((k : Nat) : Int)))]) hx hb dX0_toMake_50 rfl hl (by decide) rfl (fun ls hl => ?_)
      refine lv_iinc (v := zI (((k : Nat) : Int) + 1 : Int)) (lv' := [(3, .int (zI (((k : Nat) : Int) + 1 : Int))), (2, .int (zI ((cnB (agP (aWd a) v1) (k + 1) : Nat) : Int))), (0, .ref x), (1, .ref (ra v1))]) hx hb dX0_toMake_51 hl (k := 3) rfl ((zI_add _ _).trans (congrArg zI (by omega))) (by decide) rfl (fun ls hl => ?_)
      refine lv_goto (tgt := 4) hx hb dX0_toMake_54 (by decide) ?_
      have hl : lv_has ls 4 [(3, .int (zI ((k + 1 : Nat) : Int))), (2, .int (zI ((cnB (agP (aWd a) v1) (k + 1) : Nat) : Int))), (0, .ref x), (1, .ref (ra v1))] := by exact hl
      exact ihA (wM (aWd a) - (k + 1)) (by omega) H locs ls ⟨(k + 1), ⟨by omega, rfl⟩, hG, (lv_sub hl [2, 3, 1, 0] rfl)⟩
    · have hon : rOn (wRk (aWd a) k) = v1 := hR.inj hrkk.2.2.1 hv9 (Option.some.inj h2)
      refine lv_aload_n hx hb dX0_toMake_32 rfl (lv_at hl 0 rfl) ?_
      refine g_get (ci := 0) hx hb hts in_X0 hown hG (hG.vo hx0) rfl 4 (Nat.le_of_ble_eq_true rfl) (hts _ q388) (fun _ h9 => h9) rfl dX0_toMake_33 ?_
      refine g_get (ci := 2) hx hb hts in_X2 hown hG (hG.vo hw0) rfl 8 (Nat.le_of_ble_eq_true rfl) (hts _ q353) (fun _ h9 => h9) rfl dX0_toMake_36 ?_
      refine lv_iload_n hx hb dX0_toMake_39 rfl (lv_at hl 3 rfl) ?_
      refine g_zald hx hb hG (hG.vo hw3) k ⟨rfl, by omega, by omega⟩ (v := zI (bI (wSt (aWd a) k))) (hwS k (by omega)) dX0_toMake_40 ?_
      have hb1 := bI_01 (wSt (aWd a) k)
      refine g_ne (tgt := 48) hx hb dX0_toMake_41 (by decide) (by omega) (fun h3 => ?_) (fun h3 => ?_)
      · have hb9 : agP (aWd a) v1 k = false := by unfold agP; rw [bI_n h3]; cases (decide (rOn (wRk (aWd a) k) = v1)) <;> rfl
        refine lv_iconst (v := zI 0) hx hb dX0_toMake_48 (by decide +kernel) ?_
        refine g_iadd hx hb dX0_toMake_49 ?_
        refine g_topz (y := ((cnB (agP (aWd a) v1) (k + 1) : Nat) : Int)) (by rw [cnB_f hb9]; omega) ?_
        refine lv_istore_n (lv' := [(2, .int (zI ((cnB (agP (aWd a) v1) (k + 1) : Nat) : Int))), (0, .ref x), (1, .ref (ra v1)), (3, .int (zI ((k : Nat) : Int)))]) hx hb dX0_toMake_50 rfl hl (by decide) rfl (fun ls hl => ?_)
        refine lv_iinc (v := zI (((k : Nat) : Int) + 1 : Int)) (lv' := [(3, .int (zI (((k : Nat) : Int) + 1 : Int))), (2, .int (zI ((cnB (agP (aWd a) v1) (k + 1) : Nat) : Int))), (0, .ref x), (1, .ref (ra v1))]) hx hb dX0_toMake_51 hl (k := 3) rfl ((zI_add _ _).trans (congrArg zI (by omega))) (by decide) rfl (fun ls hl => ?_)
        refine lv_goto (tgt := 4) hx hb dX0_toMake_54 (by decide) ?_
        have hl : lv_has ls 4 [(3, .int (zI ((k + 1 : Nat) : Int))), (2, .int (zI ((cnB (agP (aWd a) v1) (k + 1) : Nat) : Int))), (0, .ref x), (1, .ref (ra v1))] := by exact hl
        exact ihA (wM (aWd a) - (k + 1)) (by omega) H locs ls ⟨(k + 1), ⟨by omega, rfl⟩, hG, (lv_sub hl [2, 3, 1, 0] rfl)⟩
      · have hb9 : agP (aWd a) v1 k = true := by unfold agP; rw [decide_eq_true hon, bI_f0 h3]; rfl
        refine lv_iconst (v := zI 1) hx hb dX0_toMake_44 (by decide +kernel) ?_
        refine lv_goto (tgt := 49) hx hb dX0_toMake_45 (by decide) ?_
        refine g_iadd hx hb dX0_toMake_49 ?_
        refine g_topz (y := ((cnB (agP (aWd a) v1) (k + 1) : Nat) : Int)) (by rw [cnB_t hb9]; omega) ?_
        refine lv_istore_n (lv' := [(2, .int (zI ((cnB (agP (aWd a) v1) (k + 1) : Nat) : Int))), (0, .ref x), (1, .ref (ra v1)), (3, .int (zI ((k : Nat) : Int)))]) hx hb dX0_toMake_50 rfl hl (by decide) rfl (fun ls hl => ?_)
        refine lv_iinc (v := zI (((k : Nat) : Int) + 1 : Int)) (lv' := [(3, .int (zI (((k : Nat) : Int) + 1 : Int))), (2, .int (zI ((cnB (agP (aWd a) v1) (k + 1) : Nat) : Int))), (0, .ref x), (1, .ref (ra v1))]) hx hb dX0_toMake_51 hl (k := 3) rfl ((zI_add _ _).trans (congrArg zI (by omega))) (by decide) rfl (fun ls hl => ?_)
        refine lv_goto (tgt := 4) hx hb dX0_toMake_54 (by decide) ?_
        have hl : lv_has ls 4 [(3, .int (zI ((k + 1 : Nat) : Int))), (2, .int (zI ((cnB (agP (aWd a) v1) (k + 1) : Nat) : Int))), (0, .ref x), (1, .ref (ra v1))] := by exact hl
        exact ihA (wM (aWd a) - (k + 1)) (by omega) H locs ls ⟨(k + 1), ⟨by omega, rfl⟩, hG, (lv_sub hl [2, 3, 1, 0] rfl)⟩

set_option maxHeartbeats 500000 in
theorem metX0_again {l : Launch} {X : gX} {F : gF} {V : gV} {Z : va_W} {x sa rf tr tb kl wa rv rk st : Nat} {sh ra la ma : Nat → Nat} {im : Option Nat} {a : aS} (hS : xS X F V x a sa rf tr tb kl wa rv rk st sh ra la ma im) (hA : aOK a) (hst : l.stackTraces = false) {v y : Int} (hrv : (-2147483648 ≤ v ∧ v < 2147483648)) (hry : (-2147483648 ≤ y ∧ y < 2147483648)) : vx_Met l yX0_again (wsW_ yX0_again cX0_again 10 (some FieldType.int) [(0, 195, 196, 21)]) ({ frames := 7, cells := 24, slots := 320, locals := 176 }) (gP X F V (Z) [.ref x, .int (zI v), .int (zI y)]) (gQi X (fun u G U ws => gLe F G ∧ u = zI (opAgain a v y).1 ∧ xX X G U x (opAgain a v y).2 ∧ Z = ws)) (gXc X (fun _ _ _ _ _ => False)) 24 320 (gA X) := by
  refine vx_Met.gH (by decide) (Nat.le_of_ble_eq_true rfl) ?_
  intro p e s m below meth c ls hx hb hr hts hown hlocks hml hin htab hG hl
  have hl : lv_has ls 10 [(0, .ref x), (1, .int (zI v)), (2, .int (zI y))] := hl
  have hSA := hS
  obtain ⟨hx0, ⟨fs9, hx1, hsh⟩, ⟨gr9, hx2, hgr⟩, hx3, hx4, hW, hx6, hx7⟩ := hSA
  have hSA := hS
  have hK := hA.w
  have hNN := hK.n
  have hMM := hK.m
  obtain ⟨hw0, ⟨fR, hw1, hwR⟩, ⟨fM, hw2, hwM⟩, ⟨fS, hw3, hwS⟩, hR, hMk⟩ := id hW
  have hw0 : V 4 = some (wa, oB 2 [.int (zI (wN (aWd a) : Int)), .int (zI (wM (aWd a) : Int)), .int (zI (wRun (aWd a) : Int)), .int (zI (wNeed (aWd a) : Int)), .int (zI (wMar (aWd a) : Int)), .int (wSeed (aWd a)), .ref rv, .ref rk, .ref st]) := hw0
  have hw1 : V 5 = some (rv, aR (gT X 7) 16 fR) := hw1
  have hw2 : V 6 = some (rk, aR (gT X 8) 16 fM) := hw2
  have hw3 : V 7 = some (st, aI (gT X 5) 16 fS) := hw3
  refine lv_aload_n hx hb dX0_again_0 rfl (lv_at hl 0 rfl) ?_
  refine lv_iload_n hx hb dX0_again_1 rfl (lv_at hl 1 rfl) ?_
  by_cases hcv : 0 ≤ v ∧ v < wN (aWd a)
  · obtain ⟨v1, rfl⟩ : ∃ z : Nat, v = (z : Int) := ⟨v.toNat, by omega⟩
    refine g_cr (va_runV (As := [.int (zI (v1 : Int))]) (rest := []) ⟨hx, hb, hml, hown, hts⟩ (metX0_revision_t (r := v1) hS hA (by omega)) (cwV 1 hts (lw_V q737 q739 qs4 q87 q740) rfl rfl rfl (by decide +kernel) ⟨Nat.le_of_ble_eq_true rfl, Nat.le_of_ble_eq_true rfl⟩) (g_preV hG (g_recv hG (hG.vo hx0) (ci := 0) rfl)) rfl rfl hl.1 rfl (lv_room (Nat.le_of_ble_eq_true rfl)) dX0_again_2 ⟨by show _ ≤ 24; omega, by show _ ≤ 320; omega⟩) hG (fun r_1 F_2 V_3 ws_ H locs hp hG => ?_)
    obtain ⟨rfl, rfl, rfl, rfl⟩ := hp
    have hG : gW X F V (Z) s H locs := hG
    have hlnv1 : aLn a ((v1 : Nat) : Int) = ((wTx (aWd a) v1).length : Nat) := rfl
    have h24v1 := (hK.tx (r := v1) (by omega)).1
    refine lv_astore_n (lv' := [(3, .ref (ra v1)), (0, .ref x), (1, .int (zI (v1 : Int))), (2, .int (zI y))]) hx hb dX0_again_5 rfl hl (by decide) rfl (fun ls hl => ?_)
    refine lv_aload_n hx hb dX0_again_6 rfl (lv_at hl 1 rfl) ?_
    refine lv_iload_n hx hb dX0_again_7 rfl (lv_at hl 3 rfl) ?_
    by_cases hcy : 0 ≤ y ∧ y < wN (aWd a)
    · obtain ⟨y1, rfl⟩ : ∃ z : Nat, y = (z : Int) := ⟨y.toNat, by omega⟩
      refine g_cr (va_runV (As := [.int (zI (y1 : Int))]) (rest := []) ⟨hx, hb, hml, hown, hts⟩ (metX0_revision_t (r := y1) hS hA (by omega)) (cwV 1 hts (lw_V q737 q739 qs4 q87 q740) rfl rfl rfl (by decide +kernel) ⟨Nat.le_of_ble_eq_true rfl, Nat.le_of_ble_eq_true rfl⟩) (g_preV hG (g_recv hG (hG.vo hx0) (ci := 0) rfl)) rfl rfl hl.1 rfl (lv_room (Nat.le_of_ble_eq_true rfl)) dX0_again_8 ⟨by show _ ≤ 24; omega, by show _ ≤ 320; omega⟩) hG (fun r_4 F_5 V_6 ws_ H locs hp hG => ?_)
      obtain ⟨rfl, rfl, rfl, rfl⟩ := hp
      have hG : gW X F V (Z) s H locs := hG
      have hlny1 : aLn a ((y1 : Nat) : Int) = ((wTx (aWd a) y1).length : Nat) := rfl
      have h24y1 := (hK.tx (r := y1) (by omega)).1
      refine lv_astore (lv' := [(4, .ref (ra y1)), (3, .ref (ra v1)), (0, .ref x), (1, .int (zI (v1 : Int))), (2, .int (zI (y1 : Int)))]) hx hb dX0_again_11 hl (by decide) rfl (fun ls hl => ?_)
      refine lv_aload hx hb dX0_again_13 (lv_at hl 0 rfl) ?_
      refine lv_aload_n hx hb dX0_again_15 rfl (lv_at hl 1 rfl) ?_
      refine g_ci (va_runV (As := [.ref (ra v1)]) (rest := []) ⟨hx, hb, hml, hown, hts⟩ (metX14_isBehind hR hK (by omega) (by omega)) (cwV 1 hts (lw_V q1952 q1953 q1954 q140 q1955) rfl rfl rfl (by decide +kernel) ⟨Nat.le_of_ble_eq_true rfl, Nat.le_of_ble_eq_true rfl⟩) (g_preV hG (rev_recv hG (hR y1 (by omega)).1)) rfl rfl hl.1 rfl (lv_room (Nat.le_of_ble_eq_true rfl)) dX0_again_16 ⟨by show _ ≤ 24; omega, by show _ ≤ 320; omega⟩) hG (fun r_7 F_8 V_9 ws_ H locs hp hG => ?_)
      obtain ⟨rfl, rfl, rfl, rfl⟩ := hp
      have hG : gW X F V (Z) s H locs := hG
      rcases hb9 : beh (wFo (aWd a)) y1 v1 with _ | n
      · refine g_topz (y := 0) (by first | rfl | (rw [hb9]; rfl)) ?_
        refine g_ne (tgt := 26) hx hb dX0_again_19 (by decide) (by decide) (fun hq => ?_) (fun hq => ?_)
        · exfalso; omega
        · refine lv_iconst (v := zI 1) hx hb dX0_again_22 (by decide +kernel) ?_
          refine lv_goto (tgt := 27) hx hb dX0_again_23 (by decide) ?_
          refine lv_bipush (v := zI (-6)) hx hb dX0_again_27 (by decide +kernel) ?_
          refine g_cv (va_runS (As := [.int (zI 1), .int (zI (-6))]) (rest := []) ⟨hx, hb, hml, hown, hts⟩ (metX0_need_t (b := 1) (by decide)) (va_cwS 2 hts (lw_S q520 q521 q87 q522) rfl rfl rfl (by decide +kernel) ⟨Nat.le_of_ble_eq_true rfl, Nat.le_of_ble_eq_true rfl⟩) (g_preS hG) rfl rfl hl.1 rfl (lv_room (Nat.le_of_ble_eq_true rfl)) dX0_again_29 ⟨by show _ ≤ 24; omega, by show _ ≤ 320; omega⟩) hG (fun F_11 V_12 ws_ H locs hp hG => ?_)
          obtain ⟨rfl, rfl, rfl⟩ := hp
          have hG : gW X F V (Z) s H locs := hG
          refine lv_aload_n hx hb dX0_again_32 rfl (lv_at hl 2 rfl) ?_
          refine lv_aload_n hx hb dX0_again_33 rfl (lv_at hl 1 rfl) ?_
          refine g_ci (va_runV (As := [.ref (ra v1)]) (rest := []) ⟨hx, hb, hml, hown, hts⟩ (metX0_toMake hS hA (by omega)) (cwV 1 hts (lw_V q3127 q3129 qs38 q87 q3130) rfl rfl rfl (by decide +kernel) ⟨Nat.le_of_ble_eq_true rfl, Nat.le_of_ble_eq_true rfl⟩) (g_preV hG (g_recv hG (hG.vo hx0) (ci := 0) rfl)) rfl rfl hl.1 rfl (lv_room (Nat.le_of_ble_eq_true rfl)) dX0_again_34 ⟨by show _ ≤ 24; omega, by show _ ≤ 320; omega⟩) hG (fun r_13 F_14 V_15 ws_ H locs hp hG => ?_)
          obtain ⟨rfl, rfl, rfl, rfl⟩ := hp
          have hG : gW X F V (Z) s H locs := hG
          have hcl := cnB_le (agP (aWd a) v1) (wM (aWd a))
          refine lv_istore (lv' := [(5, .int (zI ((cnB (agP (aWd a) v1) (wM (aWd a))) : Int))), (4, .ref (ra y1)), (3, .ref (ra v1)), (0, .ref x), (1, .int (zI (v1 : Int))), (2, .int (zI (y1 : Int)))]) hx hb dX0_again_37 hl (by decide) rfl (fun ls hl => ?_)
          refine lv_aload_n hx hb dX0_again_39 rfl (lv_at hl 3 rfl) ?_
          refine g_get (ci := 0) hx hb hts in_X0 hown hG (hG.vo hx0) rfl 4 (Nat.le_of_ble_eq_true rfl) (hts _ q388) (fun _ h9 => h9) rfl dX0_again_40 ?_
          refine g_get (ci := 2) hx hb hts in_X2 hown hG (hG.vo hw0) rfl 0 (Nat.le_of_ble_eq_true rfl) (hts _ q334) (fun _ h9 => h9) rfl dX0_again_43 ?_
          refine lv_bipush (v := zI 16) hx hb dX0_again_46 (by decide +kernel) ?_
          refine g_cge (tgt := 70) hx hb dX0_again_48 (by decide) (by omega) (fun h5 => ?_) (fun h5 => ?_)
          · refine lv_iconst (v := zI 0) hx hb dX0_again_70 (by decide +kernel) ?_
            refine lv_bipush (v := zI (-7)) hx hb dX0_again_71 (by decide +kernel) ?_
            refine g_xv (vx_runS (As := [.int (zI 0), .int (zI (-7))]) (rest := []) ⟨hx, hb, hml, hown, hts⟩ (metX0_need_f (k := 7)) (va_cwS 2 hts (lw_S q520 q521 q87 q522) rfl rfl rfl (by decide +kernel) ⟨Nat.le_of_ble_eq_true rfl, Nat.le_of_ble_eq_true rfl⟩) (g_preS hG) rfl rfl hl.1 rfl (lv_room (Nat.le_of_ble_eq_true rfl)) dX0_again_73 ⟨by show _ ≤ 24; omega, by show _ ≤ 320; omega⟩) hG (fun E9 ce9 q9 Fx_19 Vx_20 ws_ H locs hpx hG hce => ?_) (fun F_17 V_18 ws_ H locs hp hG => ?_)
            · obtain ⟨rfl, hle_Fx_19, hq9, rfl, rfl⟩ := hpx
              have hG : gW X Fx_19 V (Z) s H locs := hG
              refine g_catch (name := "LineRemarks$Refused") hown htab [] ⟨0, 195, 196, 21⟩ [] rfl (fun z9 hz9 => absurd hz9 List.not_mem_nil) (by decide) (by decide) (hts _ q410) (hG.1.2.1.1 _ qn498) hce ?_
              refine lv_astore_n (lv' := [(3, .ref q9), (5, .int (zI ((cnB (agP (aWd a) v1) (wM (aWd a))) : Int))), (4, .ref (ra y1)), (0, .ref x), (1, .int (zI (v1 : Int))), (2, .int (zI (y1 : Int)))]) hx hb dX0_again_196 rfl hl (by decide) rfl (fun ls hl => ?_)
              refine lv_aload_n hx hb dX0_again_197 rfl (lv_at hl 3 rfl) ?_
              refine lv_aload_n hx hb dX0_again_198 rfl (lv_at hl 0 rfl) ?_
              refine g_ci (va_runV (As := [.ref q9]) (rest := []) ⟨hx, hb, hml, hown, hts⟩ (metX0_refused (k := 7) (hS.mono hle_Fx_19) hA hq9 (by decide)) (cwV 1 hts (lw_V q589 q591 qs2 q87 q592) rfl rfl rfl (by decide +kernel) ⟨Nat.le_of_ble_eq_true rfl, Nat.le_of_ble_eq_true rfl⟩) (g_preV hG (g_recv hG (hG.vo hx0) (ci := 0) rfl)) rfl rfl hl.1 rfl (lv_room (Nat.le_of_ble_eq_true rfl)) dX0_again_199 ⟨by show _ ≤ 24; omega, by show _ ≤ 320; omega⟩) hG (fun r_21 F_22 V_23 ws_ H locs hp hG => ?_)
              obtain ⟨rfl, rfl, hS9, rfl⟩ := hp
              have hG : gW X Fx_19 V_23 (Z) s H locs := hG
              refine vx_ret ?_
              exact g_iret hx hb hr hlocks hG (by have e9 : opAgain a (v1 : Int) (y1 : Int) = aNoR a 7 := (by unfold opAgain; rw [if_neg (by omega), show beh (wFo (aWd a)) ((y1 : Nat) : Int).toNat ((v1 : Nat) : Int).toNat = none from hb9]; first | done | (show (if _ ∨ 16 < wM (aWd a) + (cnB (agP (aWd a) v1) (wM (aWd a))) then _ else _) = _; rw [if_pos (by omega)])); rw [e9]; exact ⟨hle_Fx_19, rfl, hS9.ex, rfl⟩) ⟨by show _ ≤ 24; omega, by show _ ≤ 320; omega⟩ dX0_again_202
            exact hp.elim
          · refine lv_aload_n hx hb dX0_again_51 rfl (lv_at hl 3 rfl) ?_
            refine g_get (ci := 0) hx hb hts in_X0 hown hG (hG.vo hx0) rfl 4 (Nat.le_of_ble_eq_true rfl) (hts _ q388) (fun _ h9 => h9) rfl dX0_again_52 ?_
            refine g_get (ci := 2) hx hb hts in_X2 hown hG (hG.vo hw0) rfl 1 (Nat.le_of_ble_eq_true rfl) (hts _ q336) (fun _ h9 => h9) rfl dX0_again_55 ?_
            refine lv_iload hx hb dX0_again_58 (lv_at hl 0 rfl) ?_
            refine g_iadd hx hb dX0_again_60 ?_
            refine lv_bipush (v := zI 16) hx hb dX0_again_61 (by decide +kernel) ?_
            refine g_cgt (tgt := 70) hx hb dX0_again_63 (by decide) (by omega) (fun h6 => ?_) (fun h6 => ?_)
            · refine lv_iconst (v := zI 0) hx hb dX0_again_70 (by decide +kernel) ?_
              refine lv_bipush (v := zI (-7)) hx hb dX0_again_71 (by decide +kernel) ?_
              refine g_xv (vx_runS (As := [.int (zI 0), .int (zI (-7))]) (rest := []) ⟨hx, hb, hml, hown, hts⟩ (metX0_need_f (k := 7)) (va_cwS 2 hts (lw_S q520 q521 q87 q522) rfl rfl rfl (by decide +kernel) ⟨Nat.le_of_ble_eq_true rfl, Nat.le_of_ble_eq_true rfl⟩) (g_preS hG) rfl rfl hl.1 rfl (lv_room (Nat.le_of_ble_eq_true rfl)) dX0_again_73 ⟨by show _ ≤ 24; omega, by show _ ≤ 320; omega⟩) hG (fun E9 ce9 q9 Fx_27 Vx_28 ws_ H locs hpx hG hce => ?_) (fun F_25 V_26 ws_ H locs hp hG => ?_)
              · obtain ⟨rfl, hle_Fx_27, hq9, rfl, rfl⟩ := hpx
                have hG : gW X Fx_27 V (Z) s H locs := hG
                refine g_catch (name := "LineRemarks$Refused") hown htab [] ⟨0, 195, 196, 21⟩ [] rfl (fun z9 hz9 => absurd hz9 List.not_mem_nil) (by decide) (by decide) (hts _ q410) (hG.1.2.1.1 _ qn498) hce ?_
                refine lv_astore_n (lv' := [(3, .ref q9), (5, .int (zI ((cnB (agP (aWd a) v1) (wM (aWd a))) : Int))), (4, .ref (ra y1)), (0, .ref x), (1, .int (zI (v1 : Int))), (2, .int (zI (y1 : Int)))]) hx hb dX0_again_196 rfl hl (by decide) rfl (fun ls hl => ?_)
                refine lv_aload_n hx hb dX0_again_197 rfl (lv_at hl 3 rfl) ?_
                refine lv_aload_n hx hb dX0_again_198 rfl (lv_at hl 0 rfl) ?_
                refine g_ci (va_runV (As := [.ref q9]) (rest := []) ⟨hx, hb, hml, hown, hts⟩ (metX0_refused (k := 7) (hS.mono hle_Fx_27) hA hq9 (by decide)) (cwV 1 hts (lw_V q589 q591 qs2 q87 q592) rfl rfl rfl (by decide +kernel) ⟨Nat.le_of_ble_eq_true rfl, Nat.le_of_ble_eq_true rfl⟩) (g_preV hG (g_recv hG (hG.vo hx0) (ci := 0) rfl)) rfl rfl hl.1 rfl (lv_room (Nat.le_of_ble_eq_true rfl)) dX0_again_199 ⟨by show _ ≤ 24; omega, by show _ ≤ 320; omega⟩) hG (fun r_29 F_30 V_31 ws_ H locs hp hG => ?_)
                obtain ⟨rfl, rfl, hS9, rfl⟩ := hp
                have hG : gW X Fx_27 V_31 (Z) s H locs := hG
                refine vx_ret ?_
                exact g_iret hx hb hr hlocks hG (by have e9 : opAgain a (v1 : Int) (y1 : Int) = aNoR a 7 := (by unfold opAgain; rw [if_neg (by omega), show beh (wFo (aWd a)) ((y1 : Nat) : Int).toNat ((v1 : Nat) : Int).toNat = none from hb9]; first | done | (show (if _ ∨ 16 < wM (aWd a) + (cnB (agP (aWd a) v1) (wM (aWd a))) then _ else _) = _; rw [if_pos (by omega)])); rw [e9]; exact ⟨hle_Fx_27, rfl, hS9.ex, rfl⟩) ⟨by show _ ≤ 24; omega, by show _ ≤ 320; omega⟩ dX0_again_202
              exact hp.elim
            · refine lv_iconst (v := zI 1) hx hb dX0_again_66 (by decide +kernel) ?_
              refine lv_goto (tgt := 71) hx hb dX0_again_67 (by decide) ?_
              refine lv_bipush (v := zI (-7)) hx hb dX0_again_71 (by decide +kernel) ?_
              refine g_cv (va_runS (As := [.int (zI 1), .int (zI (-7))]) (rest := []) ⟨hx, hb, hml, hown, hts⟩ (metX0_need_t (b := 1) (by decide)) (va_cwS 2 hts (lw_S q520 q521 q87 q522) rfl rfl rfl (by decide +kernel) ⟨Nat.le_of_ble_eq_true rfl, Nat.le_of_ble_eq_true rfl⟩) (g_preS hG) rfl rfl hl.1 rfl (lv_room (Nat.le_of_ble_eq_true rfl)) dX0_again_73 ⟨by show _ ≤ 24; omega, by show _ ≤ 320; omega⟩) hG (fun F_33 V_34 ws_ H locs hp hG => ?_)
              obtain ⟨rfl, rfl, rfl⟩ := hp
              have hG : gW X F V (Z) s H locs := hG
              refine lv_aload_n hx hb dX0_again_76 rfl (lv_at hl 3 rfl) ?_
              refine g_get (ci := 0) hx hb hts in_X0 hown hG (hG.vo hx0) rfl 4 (Nat.le_of_ble_eq_true rfl) (hts _ q388) (fun _ h9 => h9) rfl dX0_again_77 ?_
              refine g_get (ci := 2) hx hb hts in_X2 hown hG (hG.vo hw0) rfl 6 (Nat.le_of_ble_eq_true rfl) (hts _ q349) (fun _ h9 => h9) rfl dX0_again_80 ?_
              refine lv_aload_n hx hb dX0_again_83 rfl (lv_at hl 3 rfl) ?_
              refine g_get (ci := 0) hx hb hts in_X0 hown hG (hG.vo hx0) rfl 4 (Nat.le_of_ble_eq_true rfl) (hts _ q388) (fun _ h9 => h9) rfl dX0_again_84 ?_
              refine lv_aload hx hb dX0_again_87 (lv_at hl 1 rfl) ?_
              refine lv_aload_n hx hb dX0_again_89 rfl (lv_at hl 2 rfl) ?_
              obtain ⟨vc_35, hrvc_35, hgvc_35⟩ := hG.rv (hR v1 (by omega)).1
              refine g_get (ci := 12) hx hb hts in_X14 hown hG hrvc_35 rfl 2 (Nat.le_of_ble_eq_true rfl) (hts _ q1728) (fun _ h9 => h9) rfl dX0_again_90 ?_
              refine g_ci (va_runV (As := [.ref (ra y1), .ref (la v1)]) (rest := [.ref rv]) ⟨hx, hb, hml, hown, hts⟩ (metX2_add (fo := some y1) (t := wTx (aWd a) v1) hW hK (by omega) (fun f9 h9 => by cases h9; omega) (hR v1 (by omega)).2) (cwV 2 hts (lw_V q1710 q1711 q1712 q100 q1713) rfl rfl rfl (by decide +kernel) ⟨Nat.le_of_ble_eq_true rfl, Nat.le_of_ble_eq_true rfl⟩) (g_preV hG (g_recv hG (hG.vo hw0) (ci := 2) rfl)) rfl rfl hl.1 rfl (lv_room (Nat.le_of_ble_eq_true rfl)) dX0_again_93 ⟨by show _ ≤ 24; omega, by show _ ≤ 320; omega⟩) hG (fun r_36 G1 V_37 ws_ H locs hp hG => ?_)
              obtain ⟨hle_G1, rfl, ra9, la9, hW9, hB9, rfl⟩ := hp
              have hG : gW X G1 V_37 (Z) s H locs := hG
              have hWV := hW9
              obtain ⟨hv0, ⟨fR2, hv1, hvR⟩, -, -, -, -⟩ := hWV
              have hv0 : V_37 4 = some (wa, oB 2 [.int (zI (wN (wAdd (aWd a) (some y1) (wTx (aWd a) v1)) : Int)), .int (zI (wM (wAdd (aWd a) (some y1) (wTx (aWd a) v1)) : Int)), .int (zI (wRun (wAdd (aWd a) (some y1) (wTx (aWd a) v1)) : Int)), .int (zI (wNeed (wAdd (aWd a) (some y1) (wTx (aWd a) v1)) : Int)), .int (zI (wMar (wAdd (aWd a) (some y1) (wTx (aWd a) v1)) : Int)), .int (wSeed (wAdd (aWd a) (some y1) (wTx (aWd a) v1))), .ref rv, .ref rk, .ref st]) := hv0
              have hv1 : V_37 5 = some (rv, aR (gT X 7) 16 fR2) := hv1
              have hx0b : V_37 0 = some (x, oB 0 [.ref sa, .ref rf, .ref tr, .ref kl, .ref wa, va_rf im, .int (zI (aFa a))]) := (hB9 0 (by decide)).trans hx0
              refine g_aald hx hb hG 7 rfl rfl (hG.vo hv1) (wN (aWd a)) ⟨rfl, by omega, by omega⟩ (v := .ref (ra9 (wN (aWd a)))) (congrArg va_rf (hvR _ (show wN (aWd a) < wN (aWd a) + 1 by omega))) dX0_again_96 ?_
              refine lv_astore (lv' := [(6, .ref (ra9 (wN (aWd a)))), (5, .int (zI ((cnB (agP (aWd a) v1) (wM (aWd a))) : Int))), (4, .ref (ra y1)), (3, .ref (ra v1)), (0, .ref x), (1, .int (zI (v1 : Int))), (2, .int (zI (y1 : Int)))]) hx hb dX0_again_97 hl (by decide) rfl (fun ls hl => ?_)
              refine lv_aload_n hx hb dX0_again_99 rfl (lv_at hl 4 rfl) ?_
              refine g_get (ci := 0) hx hb hts in_X0 hown hG (hG.vo hx0b) rfl 4 (Nat.le_of_ble_eq_true rfl) (hts _ q388) (fun _ h9 => h9) rfl dX0_again_100 ?_
              refine g_get (ci := 2) hx hb hts in_X2 hown hG (hG.vo hv0) rfl 1 (Nat.le_of_ble_eq_true rfl) (hts _ q336) (fun _ h9 => h9) rfl dX0_again_103 ?_
              refine lv_istore (lv' := [(7, .int (zI (wM (wAdd (aWd a) (some y1) (wTx (aWd a) v1)) : Int))), (6, .ref (ra9 (wN (aWd a)))), (5, .int (zI ((cnB (agP (aWd a) v1) (wM (aWd a))) : Int))), (4, .ref (ra y1)), (3, .ref (ra v1)), (0, .ref x), (1, .int (zI (v1 : Int))), (2, .int (zI (y1 : Int)))]) hx hb dX0_again_106 hl (by decide) rfl (fun ls hl => ?_)
              refine lv_iconst (v := zI 0) hx hb dX0_again_108 (by decide +kernel) ?_
              refine lv_istore (lv' := [(8, .int (zI 0)), (7, .int (zI (wM (wAdd (aWd a) (some y1) (wTx (aWd a) v1)) : Int))), (6, .ref (ra9 (wN (aWd a)))), (5, .int (zI ((cnB (agP (aWd a) v1) (wM (aWd a))) : Int))), (4, .ref (ra y1)), (3, .ref (ra v1)), (0, .ref x), (1, .int (zI (v1 : Int))), (2, .int (zI (y1 : Int)))]) hx hb dX0_again_109 hl (by decide) rfl (fun ls hl => ?_)
              have hl : lv_has ls 10 [(8, .int (zI ((0 : Nat) : Int))), (7, .int (zI ((wM (aWd a) : Nat) : Int))), (6, .ref (ra9 (wN (aWd a)))), (5, .int (zI ((cnB (agP (aWd a) v1) (wM (aWd a))) : Int))), (4, .ref (ra y1)), (3, .ref (ra v1)), (0, .ref x), (1, .int (zI (v1 : Int))), (2, .int (zI (y1 : Int)))] := by exact hl
              refine g_loopA (fun mz H locs ls => ∃ (k : Nat) (F1 : gF) (U : gV) (ma9 : Nat → Nat), (k ≤ wM (aWd a) ∧ mz = wM (aWd a) - k ∧ gLe F F1 ∧ xWd X F1 U 4 (agF (aWd a) v1 y1 k) wa rv rk st ra9 la9 ma9 ∧ (∀ m, m < wM (aWd a) → ma9 m = ma m) ∧ vxD V U) ∧ gW X F1 U (Z) s H locs ∧ lv_has ls 10 [(0, .ref x), (3, .ref (ra v1)), (5, .int (zI ((cnB (agP (aWd a) v1) (wM (aWd a))) : Int))), (6, .ref (ra9 (wN (aWd a)))), (7, .int (zI ((wM (aWd a) : Nat) : Int))), (8, .int (zI ((k : Nat) : Int)))]) (wM (aWd a) - 0) 1 12 24 320 ⟨0, G1, V_37, ma, ⟨Nat.zero_le _, rfl, hle_G1, hW9, fun _ _ => rfl, fun r9 h8 h9 => hB9 r9 (by omega)⟩, hG, (lv_sub hl [6, 5, 3, 2, 1, 0] rfl)⟩ ⟨by omega, by omega⟩ (fun mz ihA H locs ls cells slots hroom hI => ?_)
              obtain ⟨k, F1, U, ma9, ⟨hk, hmz, hle_F1, hWk, hma, hvD⟩, hG, hl⟩ := hI
              have hy0 := (hvD 0 (by decide) (Or.inl (by decide))).trans hx0
              have hWV := hWk
              obtain ⟨hy4, -, ⟨gM, hy6, hyM⟩, ⟨gS, hy7, hyS⟩, -, -⟩ := hWV
              have hy4 : U 4 = some (wa, oB 2 [.int (zI (wN (agF (aWd a) v1 y1 k) : Int)), .int (zI (wM (agF (aWd a) v1 y1 k) : Int)), .int (zI (wRun (agF (aWd a) v1 y1 k) : Int)), .int (zI (wNeed (agF (aWd a) v1 y1 k) : Int)), .int (zI (wMar (agF (aWd a) v1 y1 k) : Int)), .int (wSeed (agF (aWd a) v1 y1 k)), .ref rv, .ref rk, .ref st]) := hy4
              have hy6 : U 6 = some (rk, aR (gT X 8) 16 gM) := hy6
              have hy7 : U 7 = some (st, aI (gT X 5) 16 gS) := hy7
              obtain ⟨q1, q2, q3, q4, q5⟩ := agF_rest (w := aWd a) (x := v1) (y := y1) k
              have hck := cnB_lem (agP (aWd a) v1) hk
              refine lv_iload hx hb dX0_again_111 (lv_at hl 5 rfl) ?_
              refine lv_iload hx hb dX0_again_113 (lv_at hl 4 rfl) ?_
              refine g_cge (tgt := 193) hx hb dX0_again_115 (by decide) (by omega) (fun h7 => ?_) (fun h7 => ?_)
              · have hkn : k = wM (aWd a) := by omega
                rw [hkn] at hWk
                refine lv_iload hx hb dX0_again_193 (lv_at hl 2 rfl) ?_
                refine vx_ret ?_
                exact g_iret hx hb hr hlocks hG (by have e9 : opAgain a (v1 : Int) (y1 : Int) = (((cnB (agP (aWd a) v1) (wM (aWd a))) : Int), aSetW a (agF (aWd a) v1 y1 (wM (aWd a)))) := (by unfold opAgain; rw [if_neg (by omega), show beh (wFo (aWd a)) ((y1 : Nat) : Int).toNat ((v1 : Nat) : Int).toNat = none from hb9]; first | done | (show (if _ ∨ 16 < wM (aWd a) + (cnB (agP (aWd a) v1) (wM (aWd a))) then _ else _) = _; rw [if_neg (by omega)]; rfl)); rw [e9]; exact ⟨hle_F1, rfl, (((hS.mono hle_F1).setW hA hvD hWk hma)).ex, rfl⟩) ⟨by show _ ≤ 24; omega, by show _ ≤ 320; omega⟩ dX0_again_195
              · have hKk := hK.ag (x := v1) (y := y1) (by omega) (by omega) (by omega) k hk (by omega)
                refine lv_aload_n hx hb dX0_again_118 rfl (lv_at hl 0 rfl) ?_
                refine g_get (ci := 0) hx hb hts in_X0 hown hG (hG.vo hy0) rfl 4 (Nat.le_of_ble_eq_true rfl) (hts _ q388) (fun _ h9 => h9) rfl dX0_again_119 ?_
                refine g_get (ci := 2) hx hb hts in_X2 hown hG (hG.vo hy4) rfl 7 (Nat.le_of_ble_eq_true rfl) (hts _ q351) (fun _ h9 => h9) rfl dX0_again_122 ?_
                refine lv_iload hx hb dX0_again_125 (lv_at hl 5 rfl) ?_
                refine g_aald hx hb hG 8 rfl rfl (hG.vo hy6) k ⟨rfl, by omega, by omega⟩ (v := .ref (ma k)) (congrArg va_rf ((hyM k (by omega)).trans (congrArg some (hma k (by omega))))) dX0_again_127 ?_
                have hrkk := hK.rk (m := k) (by omega)
                have hrmk := (hMk k (by omega)).mono hle_F1
                have hkdk := hrkk.1
                refine lv_astore (lv' := [(9, .ref (ma k)), (0, .ref x), (3, .ref (ra v1)), (5, .int (zI ((cnB (agP (aWd a) v1) (wM (aWd a))) : Int))), (6, .ref (ra9 (wN (aWd a)))), (7, .int (zI ((wM (aWd a) : Nat) : Int))), (8, .int (zI ((k : Nat) : Int)))]) hx hb dX0_again_128 hl (by decide) rfl (fun ls hl => ?_)
                refine lv_aload hx hb dX0_again_130 (lv_at hl 0 rfl) ?_
                refine g_rmget hx hb hkdk hts hown hG (hG.fz hrmk) 2 (by decide) (hts _ q2084) rfl dX0_again_132 ?_
                refine lv_aload_n hx hb dX0_again_135 rfl (lv_at hl 2 rfl) ?_
                refine lv_acmp_ne (rx := (some (ra (rOn (wRk (aWd a) k))))) (ry := (some (ra v1))) (tgt := 187) hx hb dX0_again_136 (by decide) (fun h3 => ?_) (fun h3 => ?_)
                · have hb9 : agP (aWd a) v1 k = false := by unfold agP; rw [decide_eq_false (fun q => h3 (by rw [q]))]; rfl
                  have hag : agF (aWd a) v1 y1 (k + 1) = agF (aWd a) v1 y1 k := by rw [agF, if_neg (by rw [hb9]; decide)]
                  have hWn := hWk
                  rw [← hag] at hWn
                  refine lv_iinc (v := zI (((k : Nat) : Int) + 1 : Int)) (lv' := [(8, .int (zI (((k : Nat) : Int) + 1 : Int))), (9, .ref (ma k)), (0, .ref x), (3, .ref (ra v1)), (5, .int (zI ((cnB (agP (aWd a) v1) (wM (aWd a))) : Int))), (6, .ref (ra9 (wN (aWd a)))), (7, .int (zI ((wM (aWd a) : Nat) : Int)))]) hx hb dX0_again_187 hl (k := 6) rfl ((zI_add _ _).trans (congrArg zI (by omega))) (by decide) rfl (fun ls hl => ?_)
                  refine lv_goto (tgt := 111) hx hb dX0_again_190 (by decide) ?_
                  have hl : lv_has ls 10 [(8, .int (zI ((k + 1 : Nat) : Int))), (9, .ref (ma k)), (0, .ref x), (3, .ref (ra v1)), (5, .int (zI ((cnB (agP (aWd a) v1) (wM (aWd a))) : Int))), (6, .ref (ra9 (wN (aWd a)))), (7, .int (zI ((wM (aWd a) : Nat) : Int)))] := by exact hl
                  exact ihA (wM (aWd a) - (k + 1)) (by omega) H locs ls _ _ (room_S hroom (show wM (aWd a) - (k + 1) < mz by omega)) ⟨(k + 1), F1, U, ma9, ⟨by omega, rfl, hle_F1, hWn, hma, hvD⟩, hG, (lv_sub hl [2, 3, 4, 5, 6, 0] rfl)⟩
                · have hon : rOn (wRk (aWd a) k) = v1 := hR.inj hrkk.2.2.1 (by omega) (Option.some.inj h3)
                  refine lv_aload_n hx hb dX0_again_139 rfl (lv_at hl 1 rfl) ?_
                  refine g_get (ci := 0) hx hb hts in_X0 hown hG (hG.vo hy0) rfl 4 (Nat.le_of_ble_eq_true rfl) (hts _ q388) (fun _ h9 => h9) rfl dX0_again_140 ?_
                  refine g_get (ci := 2) hx hb hts in_X2 hown hG (hG.vo hy4) rfl 8 (Nat.le_of_ble_eq_true rfl) (hts _ q353) (fun _ h9 => h9) rfl dX0_again_143 ?_
                  refine lv_iload hx hb dX0_again_146 (lv_at hl 6 rfl) ?_
                  refine g_zald hx hb hG (hG.vo hy7) k ⟨rfl, by omega, by omega⟩ (v := zI (bI (wSt (aWd a) k))) ((hyS k (by omega)).trans (congrArg (fun z => zI (bI z)) (q4 k (by omega)).2)) dX0_again_148 ?_
                  have hb1 := bI_01 (wSt (aWd a) k)
                  refine g_ne (tgt := 187) hx hb dX0_again_149 (by decide) (by omega) (fun h4 => ?_) (fun h4 => ?_)
                  · have hb9 : agP (aWd a) v1 k = false := by unfold agP; rw [bI_n h4]; cases (decide (rOn (wRk (aWd a) k) = v1)) <;> rfl
                    have hag : agF (aWd a) v1 y1 (k + 1) = agF (aWd a) v1 y1 k := by rw [agF, if_neg (by rw [hb9]; decide)]
                    have hWn := hWk
                    rw [← hag] at hWn
                    refine lv_iinc (v := zI (((k : Nat) : Int) + 1 : Int)) (lv' := [(8, .int (zI (((k : Nat) : Int) + 1 : Int))), (9, .ref (ma k)), (0, .ref x), (3, .ref (ra v1)), (5, .int (zI ((cnB (agP (aWd a) v1) (wM (aWd a))) : Int))), (6, .ref (ra9 (wN (aWd a)))), (7, .int (zI ((wM (aWd a) : Nat) : Int)))]) hx hb dX0_again_187 hl (k := 6) rfl ((zI_add _ _).trans (congrArg zI (by omega))) (by decide) rfl (fun ls hl => ?_)
                    refine lv_goto (tgt := 111) hx hb dX0_again_190 (by decide) ?_
                    have hl : lv_has ls 10 [(8, .int (zI ((k + 1 : Nat) : Int))), (9, .ref (ma k)), (0, .ref x), (3, .ref (ra v1)), (5, .int (zI ((cnB (agP (aWd a) v1) (wM (aWd a))) : Int))), (6, .ref (ra9 (wN (aWd a)))), (7, .int (zI ((wM (aWd a) : Nat) : Int)))] := by exact hl
                    exact ihA (wM (aWd a) - (k + 1)) (by omega) H locs ls _ _ (room_S hroom (show wM (aWd a) - (k + 1) < mz by omega)) ⟨(k + 1), F1, U, ma9, ⟨by omega, rfl, hle_F1, hWn, hma, hvD⟩, hG, (lv_sub hl [2, 3, 4, 5, 6, 0] rfl)⟩
                  · have hb9 : agP (aWd a) v1 k = true := by unfold agP; rw [decide_eq_true hon, bI_f0 h4]; rfl
                    have hck1 := cnB_lem (agP (aWd a) v1) (show k + 1 ≤ wM (aWd a) by omega)
                    have hcs := cnB_t hb9
                    refine lv_aload_n hx hb dX0_again_152 rfl (lv_at hl 1 rfl) ?_
                    refine g_get (ci := 0) hx hb hts in_X0 hown hG (hG.vo hy0) rfl 4 (Nat.le_of_ble_eq_true rfl) (hts _ q388) (fun _ h9 => h9) rfl dX0_again_153 ?_
                    refine lv_aload hx hb dX0_again_156 (lv_at hl 0 rfl) ?_
                    rcases (show rKind (wRk (aWd a) k) = 0 ∨ rKind (wRk (aWd a) k) = 1 ∨ rKind (wRk (aWd a) k) = 2 ∨ rKind (wRk (aWd a) k) = 3 ∨ rKind (wRk (aWd a) k) = 4 ∨ rKind (wRk (aWd a) k) = 5 ∨ rKind (wRk (aWd a) k) = 6 by omega) with hd9 | hd9 | hd9 | hd9 | hd9 | hd9 | hd9
                    · rw [hd9] at hrmk
                      refine g_ci (va_runV (As := []) (rest := [.ref wa]) ⟨hx, hb, hml, hown, hts⟩ (metX16_kind) (cwV 0 hts (lw_V q2196 q2197 q2198 q145 q2218) rfl rfl rfl (by decide +kernel) ⟨Nat.le_of_ble_eq_true rfl, Nat.le_of_ble_eq_true rfl⟩) (g_preV hG (g_recv hG (hG.fz (show F1.1 (ma k) = some (oB 14 _) from hrmk)) (ci := 14) rfl)) rfl rfl hl.1 rfl (lv_room (Nat.le_of_ble_eq_true rfl)) dX0_again_158 ⟨by show _ ≤ 24; omega, by show _ ≤ 320; omega⟩) hG (fun r_38 F_39 V_40 ws_ H locs hp hG => ?_)
                      obtain ⟨rfl, rfl, rfl, rfl⟩ := hp
                      have hG : gW X F1 U (Z) s H locs := hG
                      refine lv_aload hx hb dX0_again_161 (lv_at hl 0 rfl) ?_
                      refine g_rmget hx hb (show 0 ≤ 6 by decide) hts hown hG (hG.fz hrmk) 1 (by decide) (hts _ q2079) rfl dX0_again_163 ?_
                      refine lv_aload hx hb dX0_again_166 (lv_at hl 4 rfl) ?_
                      refine lv_aload hx hb dX0_again_168 (lv_at hl 0 rfl) ?_
                      refine g_rmget hx hb (show 0 ≤ 6 by decide) hts hown hG (hG.fz hrmk) 3 (by decide) (hts _ q2090) rfl dX0_again_170 ?_
                      refine lv_aload hx hb dX0_again_173 (lv_at hl 0 rfl) ?_
                      refine g_rmget hx hb (show 0 ≤ 6 by decide) hts hown hG (hG.fz hrmk) 4 (by decide) (hts _ q2097) rfl dX0_again_175 ?_
                      refine lv_aload hx hb dX0_again_178 (lv_at hl 0 rfl) ?_
                      refine g_rmget hx hb (show 0 ≤ 6 by decide) hts hown hG (hG.fz hrmk) 5 (by decide) (hts _ q2100) rfl dX0_again_180 ?_
                      refine g_ci (va_runV (As := [.int (zI 0), .int (zI (rBy (wRk (aWd a) k) : Int)), .ref (ra9 (wN (aWd a))), .int (zI (rP (wRk (aWd a) k) : Int)), .int (zI (rQ (wRk (aWd a) k) : Int)), .int (zI (oI (rAns (wRk (aWd a) k))))]) (rest := []) ⟨hx, hb, hml, hown, hts⟩ (metX2_make_m (kd := 0) (k9 := rBy (wRk (aWd a) k)) (on := wN (aWd a)) (pp := rP (wRk (aWd a) k)) (qq := rQ (wRk (aWd a) k)) (an := rAns (wRk (aWd a) k)) hWk hKk (by omega) (by decide)) (cwV 6 hts (lw_V q2047 q2048 q2049 q100 q2050) rfl rfl rfl (by decide +kernel) ⟨Nat.le_of_ble_eq_true rfl, Nat.le_of_ble_eq_true rfl⟩) (g_preV hG (g_recv hG (hG.vo hy4) (ci := 2) rfl)) rfl rfl hl.1 rfl (lv_room (Nat.le_of_ble_eq_true rfl)) dX0_again_183 ⟨by show _ ≤ 24; omega, by show _ ≤ 320; omega⟩) hG (fun r_41 G2 V_42 ws_ H locs hp hG => ?_)
                      obtain ⟨hle_G2, rfl, ma8, hW8, hB8, hma8, rfl⟩ := hp
                      have hG : gW X G2 V_42 (Z) s H locs := hG
                      have hag : agF (aWd a) v1 y1 (k + 1) = wMake (agF (aWd a) v1 y1 k) (0, rBy (wRk (aWd a) k), wN (aWd a), rP (wRk (aWd a) k), rQ (wRk (aWd a) k), rAns (wRk (aWd a) k)) := by rw [agF, if_pos hb9]; unfold agR; rw [hd9]
                      rw [← hag] at hW8
                      refine lv_pop hx hb dX0_again_186 rfl ?_
                      refine lv_iinc (v := zI (((k : Nat) : Int) + 1 : Int)) (lv' := [(8, .int (zI (((k : Nat) : Int) + 1 : Int))), (9, .ref (ma k)), (0, .ref x), (3, .ref (ra v1)), (5, .int (zI ((cnB (agP (aWd a) v1) (wM (aWd a))) : Int))), (6, .ref (ra9 (wN (aWd a)))), (7, .int (zI ((wM (aWd a) : Nat) : Int)))]) hx hb dX0_again_187 hl (k := 6) rfl ((zI_add _ _).trans (congrArg zI (by omega))) (by decide) rfl (fun ls hl => ?_)
                      refine lv_goto (tgt := 111) hx hb dX0_again_190 (by decide) ?_
                      have hl : lv_has ls 10 [(8, .int (zI ((k + 1 : Nat) : Int))), (9, .ref (ma k)), (0, .ref x), (3, .ref (ra v1)), (5, .int (zI ((cnB (agP (aWd a) v1) (wM (aWd a))) : Int))), (6, .ref (ra9 (wN (aWd a)))), (7, .int (zI ((wM (aWd a) : Nat) : Int)))] := by exact hl
                      exact ihA (wM (aWd a) - (k + 1)) (by omega) H locs ls _ _ (room_U hroom (show wM (aWd a) - (k + 1) < mz by omega)) ⟨(k + 1), G2, V_42, ma8, ⟨by omega, rfl, hle_F1.tr hle_G2, hW8, (fun m9 h9 => (hma8 m9 (by omega)).trans (hma m9 h9)), (hvD.tr (fun r9 h8 h9 => hB8 r9 (by omega)))⟩, hG, (lv_sub hl [2, 3, 4, 5, 6, 0] rfl)⟩
                    · rw [hd9] at hrmk
                      refine g_ci (va_runU (C := "LineRemarks$Point") (As := []) (rest := [.ref wa]) ⟨hx, hb, hml, hown, hts⟩ (metX17_kind) (va_cwO 0 hts (lw_O q2196 q2199 q2197 q2209 q2210 q146 q2211) rfl rfl rfl q2218 (by decide +kernel) ⟨Nat.le_of_ble_eq_true rfl, Nat.le_of_ble_eq_true rfl⟩) (g_preV hG (g_recv hG (hG.fz (show F1.1 (ma k) = some (oB 15 _) from hrmk)) (ci := 15) rfl)) rfl rfl hl.1 rfl (lv_room (Nat.le_of_ble_eq_true rfl)) dX0_again_158 ⟨by show _ ≤ 24; omega, by show _ ≤ 320; omega⟩) hG (fun r_43 F_44 V_45 ws_ H locs hp hG => ?_)
                      obtain ⟨rfl, rfl, rfl, rfl⟩ := hp
                      have hG : gW X F1 U (Z) s H locs := hG
                      refine lv_aload hx hb dX0_again_161 (lv_at hl 0 rfl) ?_
                      refine g_rmget hx hb (show 1 ≤ 6 by decide) hts hown hG (hG.fz hrmk) 1 (by decide) (hts _ q2079) rfl dX0_again_163 ?_
                      refine lv_aload hx hb dX0_again_166 (lv_at hl 4 rfl) ?_
                      refine lv_aload hx hb dX0_again_168 (lv_at hl 0 rfl) ?_
                      refine g_rmget hx hb (show 1 ≤ 6 by decide) hts hown hG (hG.fz hrmk) 3 (by decide) (hts _ q2090) rfl dX0_again_170 ?_
                      refine lv_aload hx hb dX0_again_173 (lv_at hl 0 rfl) ?_
                      refine g_rmget hx hb (show 1 ≤ 6 by decide) hts hown hG (hG.fz hrmk) 4 (by decide) (hts _ q2097) rfl dX0_again_175 ?_
                      refine lv_aload hx hb dX0_again_178 (lv_at hl 0 rfl) ?_
                      refine g_rmget hx hb (show 1 ≤ 6 by decide) hts hown hG (hG.fz hrmk) 5 (by decide) (hts _ q2100) rfl dX0_again_180 ?_
                      refine g_ci (va_runV (As := [.int (zI 1), .int (zI (rBy (wRk (aWd a) k) : Int)), .ref (ra9 (wN (aWd a))), .int (zI (rP (wRk (aWd a) k) : Int)), .int (zI (rQ (wRk (aWd a) k) : Int)), .int (zI (oI (rAns (wRk (aWd a) k))))]) (rest := []) ⟨hx, hb, hml, hown, hts⟩ (metX2_make_m (kd := 1) (k9 := rBy (wRk (aWd a) k)) (on := wN (aWd a)) (pp := rP (wRk (aWd a) k)) (qq := rQ (wRk (aWd a) k)) (an := rAns (wRk (aWd a) k)) hWk hKk (by omega) (by decide)) (cwV 6 hts (lw_V q2047 q2048 q2049 q100 q2050) rfl rfl rfl (by decide +kernel) ⟨Nat.le_of_ble_eq_true rfl, Nat.le_of_ble_eq_true rfl⟩) (g_preV hG (g_recv hG (hG.vo hy4) (ci := 2) rfl)) rfl rfl hl.1 rfl (lv_room (Nat.le_of_ble_eq_true rfl)) dX0_again_183 ⟨by show _ ≤ 24; omega, by show _ ≤ 320; omega⟩) hG (fun r_46 G2 V_47 ws_ H locs hp hG => ?_)
                      obtain ⟨hle_G2, rfl, ma8, hW8, hB8, hma8, rfl⟩ := hp
                      have hG : gW X G2 V_47 (Z) s H locs := hG
                      have hag : agF (aWd a) v1 y1 (k + 1) = wMake (agF (aWd a) v1 y1 k) (1, rBy (wRk (aWd a) k), wN (aWd a), rP (wRk (aWd a) k), rQ (wRk (aWd a) k), rAns (wRk (aWd a) k)) := by rw [agF, if_pos hb9]; unfold agR; rw [hd9]
                      rw [← hag] at hW8
                      refine lv_pop hx hb dX0_again_186 rfl ?_
                      refine lv_iinc (v := zI (((k : Nat) : Int) + 1 : Int)) (lv' := [(8, .int (zI (((k : Nat) : Int) + 1 : Int))), (9, .ref (ma k)), (0, .ref x), (3, .ref (ra v1)), (5, .int (zI ((cnB (agP (aWd a) v1) (wM (aWd a))) : Int))), (6, .ref (ra9 (wN (aWd a)))), (7, .int (zI ((wM (aWd a) : Nat) : Int)))]) hx hb dX0_again_187 hl (k := 6) rfl ((zI_add _ _).trans (congrArg zI (by omega))) (by decide) rfl (fun ls hl => ?_)
                      refine lv_goto (tgt := 111) hx hb dX0_again_190 (by decide) ?_
                      have hl : lv_has ls 10 [(8, .int (zI ((k + 1 : Nat) : Int))), (9, .ref (ma k)), (0, .ref x), (3, .ref (ra v1)), (5, .int (zI ((cnB (agP (aWd a) v1) (wM (aWd a))) : Int))), (6, .ref (ra9 (wN (aWd a)))), (7, .int (zI ((wM (aWd a) : Nat) : Int)))] := by exact hl
                      exact ihA (wM (aWd a) - (k + 1)) (by omega) H locs ls _ _ (room_U hroom (show wM (aWd a) - (k + 1) < mz by omega)) ⟨(k + 1), G2, V_47, ma8, ⟨by omega, rfl, hle_F1.tr hle_G2, hW8, (fun m9 h9 => (hma8 m9 (by omega)).trans (hma m9 h9)), (hvD.tr (fun r9 h8 h9 => hB8 r9 (by omega)))⟩, hG, (lv_sub hl [2, 3, 4, 5, 6, 0] rfl)⟩
                    · rw [hd9] at hrmk
                      refine g_ci (va_runU (C := "LineRemarks$Block") (As := []) (rest := [.ref wa]) ⟨hx, hb, hml, hown, hts⟩ (metX18_kind) (va_cwO 0 hts (lw_O q2196 q2199 q2197 q2200 q2201 q147 q2202) rfl rfl rfl q2218 (by decide +kernel) ⟨Nat.le_of_ble_eq_true rfl, Nat.le_of_ble_eq_true rfl⟩) (g_preV hG (g_recv hG (hG.fz (show F1.1 (ma k) = some (oB 16 _) from hrmk)) (ci := 16) rfl)) rfl rfl hl.1 rfl (lv_room (Nat.le_of_ble_eq_true rfl)) dX0_again_158 ⟨by show _ ≤ 24; omega, by show _ ≤ 320; omega⟩) hG (fun r_48 F_49 V_50 ws_ H locs hp hG => ?_)
                      obtain ⟨rfl, rfl, rfl, rfl⟩ := hp
                      have hG : gW X F1 U (Z) s H locs := hG
                      refine lv_aload hx hb dX0_again_161 (lv_at hl 0 rfl) ?_
                      refine g_rmget hx hb (show 2 ≤ 6 by decide) hts hown hG (hG.fz hrmk) 1 (by decide) (hts _ q2079) rfl dX0_again_163 ?_
                      refine lv_aload hx hb dX0_again_166 (lv_at hl 4 rfl) ?_
                      refine lv_aload hx hb dX0_again_168 (lv_at hl 0 rfl) ?_
                      refine g_rmget hx hb (show 2 ≤ 6 by decide) hts hown hG (hG.fz hrmk) 3 (by decide) (hts _ q2090) rfl dX0_again_170 ?_
                      refine lv_aload hx hb dX0_again_173 (lv_at hl 0 rfl) ?_
                      refine g_rmget hx hb (show 2 ≤ 6 by decide) hts hown hG (hG.fz hrmk) 4 (by decide) (hts _ q2097) rfl dX0_again_175 ?_
                      refine lv_aload hx hb dX0_again_178 (lv_at hl 0 rfl) ?_
                      refine g_rmget hx hb (show 2 ≤ 6 by decide) hts hown hG (hG.fz hrmk) 5 (by decide) (hts _ q2100) rfl dX0_again_180 ?_
                      refine g_ci (va_runV (As := [.int (zI 2), .int (zI (rBy (wRk (aWd a) k) : Int)), .ref (ra9 (wN (aWd a))), .int (zI (rP (wRk (aWd a) k) : Int)), .int (zI (rQ (wRk (aWd a) k) : Int)), .int (zI (oI (rAns (wRk (aWd a) k))))]) (rest := []) ⟨hx, hb, hml, hown, hts⟩ (metX2_make_m (kd := 2) (k9 := rBy (wRk (aWd a) k)) (on := wN (aWd a)) (pp := rP (wRk (aWd a) k)) (qq := rQ (wRk (aWd a) k)) (an := rAns (wRk (aWd a) k)) hWk hKk (by omega) (by decide)) (cwV 6 hts (lw_V q2047 q2048 q2049 q100 q2050) rfl rfl rfl (by decide +kernel) ⟨Nat.le_of_ble_eq_true rfl, Nat.le_of_ble_eq_true rfl⟩) (g_preV hG (g_recv hG (hG.vo hy4) (ci := 2) rfl)) rfl rfl hl.1 rfl (lv_room (Nat.le_of_ble_eq_true rfl)) dX0_again_183 ⟨by show _ ≤ 24; omega, by show _ ≤ 320; omega⟩) hG (fun r_51 G2 V_52 ws_ H locs hp hG => ?_)
                      obtain ⟨hle_G2, rfl, ma8, hW8, hB8, hma8, rfl⟩ := hp
                      have hG : gW X G2 V_52 (Z) s H locs := hG
                      have hag : agF (aWd a) v1 y1 (k + 1) = wMake (agF (aWd a) v1 y1 k) (2, rBy (wRk (aWd a) k), wN (aWd a), rP (wRk (aWd a) k), rQ (wRk (aWd a) k), rAns (wRk (aWd a) k)) := by rw [agF, if_pos hb9]; unfold agR; rw [hd9]
                      rw [← hag] at hW8
                      refine lv_pop hx hb dX0_again_186 rfl ?_
                      refine lv_iinc (v := zI (((k : Nat) : Int) + 1 : Int)) (lv' := [(8, .int (zI (((k : Nat) : Int) + 1 : Int))), (9, .ref (ma k)), (0, .ref x), (3, .ref (ra v1)), (5, .int (zI ((cnB (agP (aWd a) v1) (wM (aWd a))) : Int))), (6, .ref (ra9 (wN (aWd a)))), (7, .int (zI ((wM (aWd a) : Nat) : Int)))]) hx hb dX0_again_187 hl (k := 6) rfl ((zI_add _ _).trans (congrArg zI (by omega))) (by decide) rfl (fun ls hl => ?_)
                      refine lv_goto (tgt := 111) hx hb dX0_again_190 (by decide) ?_
                      have hl : lv_has ls 10 [(8, .int (zI ((k + 1 : Nat) : Int))), (9, .ref (ma k)), (0, .ref x), (3, .ref (ra v1)), (5, .int (zI ((cnB (agP (aWd a) v1) (wM (aWd a))) : Int))), (6, .ref (ra9 (wN (aWd a)))), (7, .int (zI ((wM (aWd a) : Nat) : Int)))] := by exact hl
                      exact ihA (wM (aWd a) - (k + 1)) (by omega) H locs ls _ _ (room_U hroom (show wM (aWd a) - (k + 1) < mz by omega)) ⟨(k + 1), G2, V_52, ma8, ⟨by omega, rfl, hle_F1.tr hle_G2, hW8, (fun m9 h9 => (hma8 m9 (by omega)).trans (hma m9 h9)), (hvD.tr (fun r9 h8 h9 => hB8 r9 (by omega)))⟩, hG, (lv_sub hl [2, 3, 4, 5, 6, 0] rfl)⟩
                    · rw [hd9] at hrmk
                      refine g_ci (va_runU (C := "LineRemarks$Caret") (As := []) (rest := [.ref wa]) ⟨hx, hb, hml, hown, hts⟩ (metX19_kind) (va_cwO 0 hts (lw_O q2196 q2199 q2197 q2203 q2204 q148 q2205) rfl rfl rfl q2218 (by decide +kernel) ⟨Nat.le_of_ble_eq_true rfl, Nat.le_of_ble_eq_true rfl⟩) (g_preV hG (g_recv hG (hG.fz (show F1.1 (ma k) = some (oB 17 _) from hrmk)) (ci := 17) rfl)) rfl rfl hl.1 rfl (lv_room (Nat.le_of_ble_eq_true rfl)) dX0_again_158 ⟨by show _ ≤ 24; omega, by show _ ≤ 320; omega⟩) hG (fun r_53 F_54 V_55 ws_ H locs hp hG => ?_)
                      obtain ⟨rfl, rfl, rfl, rfl⟩ := hp
                      have hG : gW X F1 U (Z) s H locs := hG
                      refine lv_aload hx hb dX0_again_161 (lv_at hl 0 rfl) ?_
                      refine g_rmget hx hb (show 3 ≤ 6 by decide) hts hown hG (hG.fz hrmk) 1 (by decide) (hts _ q2079) rfl dX0_again_163 ?_
                      refine lv_aload hx hb dX0_again_166 (lv_at hl 4 rfl) ?_
                      refine lv_aload hx hb dX0_again_168 (lv_at hl 0 rfl) ?_
                      refine g_rmget hx hb (show 3 ≤ 6 by decide) hts hown hG (hG.fz hrmk) 3 (by decide) (hts _ q2090) rfl dX0_again_170 ?_
                      refine lv_aload hx hb dX0_again_173 (lv_at hl 0 rfl) ?_
                      refine g_rmget hx hb (show 3 ≤ 6 by decide) hts hown hG (hG.fz hrmk) 4 (by decide) (hts _ q2097) rfl dX0_again_175 ?_
                      refine lv_aload hx hb dX0_again_178 (lv_at hl 0 rfl) ?_
                      refine g_rmget hx hb (show 3 ≤ 6 by decide) hts hown hG (hG.fz hrmk) 5 (by decide) (hts _ q2100) rfl dX0_again_180 ?_
                      refine g_ci (va_runV (As := [.int (zI 3), .int (zI (rBy (wRk (aWd a) k) : Int)), .ref (ra9 (wN (aWd a))), .int (zI (rP (wRk (aWd a) k) : Int)), .int (zI (rQ (wRk (aWd a) k) : Int)), .int (zI (oI (rAns (wRk (aWd a) k))))]) (rest := []) ⟨hx, hb, hml, hown, hts⟩ (metX2_make_m (kd := 3) (k9 := rBy (wRk (aWd a) k)) (on := wN (aWd a)) (pp := rP (wRk (aWd a) k)) (qq := rQ (wRk (aWd a) k)) (an := rAns (wRk (aWd a) k)) hWk hKk (by omega) (by decide)) (cwV 6 hts (lw_V q2047 q2048 q2049 q100 q2050) rfl rfl rfl (by decide +kernel) ⟨Nat.le_of_ble_eq_true rfl, Nat.le_of_ble_eq_true rfl⟩) (g_preV hG (g_recv hG (hG.vo hy4) (ci := 2) rfl)) rfl rfl hl.1 rfl (lv_room (Nat.le_of_ble_eq_true rfl)) dX0_again_183 ⟨by show _ ≤ 24; omega, by show _ ≤ 320; omega⟩) hG (fun r_56 G2 V_57 ws_ H locs hp hG => ?_)
                      obtain ⟨hle_G2, rfl, ma8, hW8, hB8, hma8, rfl⟩ := hp
                      have hG : gW X G2 V_57 (Z) s H locs := hG
                      have hag : agF (aWd a) v1 y1 (k + 1) = wMake (agF (aWd a) v1 y1 k) (3, rBy (wRk (aWd a) k), wN (aWd a), rP (wRk (aWd a) k), rQ (wRk (aWd a) k), rAns (wRk (aWd a) k)) := by rw [agF, if_pos hb9]; unfold agR; rw [hd9]
                      rw [← hag] at hW8
                      refine lv_pop hx hb dX0_again_186 rfl ?_
                      refine lv_iinc (v := zI (((k : Nat) : Int) + 1 : Int)) (lv' := [(8, .int (zI (((k : Nat) : Int) + 1 : Int))), (9, .ref (ma k)), (0, .ref x), (3, .ref (ra v1)), (5, .int (zI ((cnB (agP (aWd a) v1) (wM (aWd a))) : Int))), (6, .ref (ra9 (wN (aWd a)))), (7, .int (zI ((wM (aWd a) : Nat) : Int)))]) hx hb dX0_again_187 hl (k := 6) rfl ((zI_add _ _).trans (congrArg zI (by omega))) (by decide) rfl (fun ls hl => ?_)
                      refine lv_goto (tgt := 111) hx hb dX0_again_190 (by decide) ?_
                      have hl : lv_has ls 10 [(8, .int (zI ((k + 1 : Nat) : Int))), (9, .ref (ma k)), (0, .ref x), (3, .ref (ra v1)), (5, .int (zI ((cnB (agP (aWd a) v1) (wM (aWd a))) : Int))), (6, .ref (ra9 (wN (aWd a)))), (7, .int (zI ((wM (aWd a) : Nat) : Int)))] := by exact hl
                      exact ihA (wM (aWd a) - (k + 1)) (by omega) H locs ls _ _ (room_U hroom (show wM (aWd a) - (k + 1) < mz by omega)) ⟨(k + 1), G2, V_57, ma8, ⟨by omega, rfl, hle_F1.tr hle_G2, hW8, (fun m9 h9 => (hma8 m9 (by omega)).trans (hma m9 h9)), (hvD.tr (fun r9 h8 h9 => hB8 r9 (by omega)))⟩, hG, (lv_sub hl [2, 3, 4, 5, 6, 0] rfl)⟩
                    · rw [hd9] at hrmk
                      refine g_ci (va_runU (C := "LineRemarks$Loose") (As := []) (rest := [.ref wa]) ⟨hx, hb, hml, hown, hts⟩ (metX20_kind) (va_cwO 0 hts (lw_O q2196 q2199 q2197 q2206 q2207 q149 q2208) rfl rfl rfl q2218 (by decide +kernel) ⟨Nat.le_of_ble_eq_true rfl, Nat.le_of_ble_eq_true rfl⟩) (g_preV hG (g_recv hG (hG.fz (show F1.1 (ma k) = some (oB 18 _) from hrmk)) (ci := 18) rfl)) rfl rfl hl.1 rfl (lv_room (Nat.le_of_ble_eq_true rfl)) dX0_again_158 ⟨by show _ ≤ 24; omega, by show _ ≤ 320; omega⟩) hG (fun r_58 F_59 V_60 ws_ H locs hp hG => ?_)
                      obtain ⟨rfl, rfl, rfl, rfl⟩ := hp
                      have hG : gW X F1 U (Z) s H locs := hG
                      refine lv_aload hx hb dX0_again_161 (lv_at hl 0 rfl) ?_
                      refine g_rmget hx hb (show 4 ≤ 6 by decide) hts hown hG (hG.fz hrmk) 1 (by decide) (hts _ q2079) rfl dX0_again_163 ?_
                      refine lv_aload hx hb dX0_again_166 (lv_at hl 4 rfl) ?_
                      refine lv_aload hx hb dX0_again_168 (lv_at hl 0 rfl) ?_
                      refine g_rmget hx hb (show 4 ≤ 6 by decide) hts hown hG (hG.fz hrmk) 3 (by decide) (hts _ q2090) rfl dX0_again_170 ?_
                      refine lv_aload hx hb dX0_again_173 (lv_at hl 0 rfl) ?_
                      refine g_rmget hx hb (show 4 ≤ 6 by decide) hts hown hG (hG.fz hrmk) 4 (by decide) (hts _ q2097) rfl dX0_again_175 ?_
                      refine lv_aload hx hb dX0_again_178 (lv_at hl 0 rfl) ?_
                      refine g_rmget hx hb (show 4 ≤ 6 by decide) hts hown hG (hG.fz hrmk) 5 (by decide) (hts _ q2100) rfl dX0_again_180 ?_
                      refine g_ci (va_runV (As := [.int (zI 4), .int (zI (rBy (wRk (aWd a) k) : Int)), .ref (ra9 (wN (aWd a))), .int (zI (rP (wRk (aWd a) k) : Int)), .int (zI (rQ (wRk (aWd a) k) : Int)), .int (zI (oI (rAns (wRk (aWd a) k))))]) (rest := []) ⟨hx, hb, hml, hown, hts⟩ (metX2_make_m (kd := 4) (k9 := rBy (wRk (aWd a) k)) (on := wN (aWd a)) (pp := rP (wRk (aWd a) k)) (qq := rQ (wRk (aWd a) k)) (an := rAns (wRk (aWd a) k)) hWk hKk (by omega) (by decide)) (cwV 6 hts (lw_V q2047 q2048 q2049 q100 q2050) rfl rfl rfl (by decide +kernel) ⟨Nat.le_of_ble_eq_true rfl, Nat.le_of_ble_eq_true rfl⟩) (g_preV hG (g_recv hG (hG.vo hy4) (ci := 2) rfl)) rfl rfl hl.1 rfl (lv_room (Nat.le_of_ble_eq_true rfl)) dX0_again_183 ⟨by show _ ≤ 24; omega, by show _ ≤ 320; omega⟩) hG (fun r_61 G2 V_62 ws_ H locs hp hG => ?_)
                      obtain ⟨hle_G2, rfl, ma8, hW8, hB8, hma8, rfl⟩ := hp
                      have hG : gW X G2 V_62 (Z) s H locs := hG
                      have hag : agF (aWd a) v1 y1 (k + 1) = wMake (agF (aWd a) v1 y1 k) (4, rBy (wRk (aWd a) k), wN (aWd a), rP (wRk (aWd a) k), rQ (wRk (aWd a) k), rAns (wRk (aWd a) k)) := by rw [agF, if_pos hb9]; unfold agR; rw [hd9]
                      rw [← hag] at hW8
                      refine lv_pop hx hb dX0_again_186 rfl ?_
                      refine lv_iinc (v := zI (((k : Nat) : Int) + 1 : Int)) (lv' := [(8, .int (zI (((k : Nat) : Int) + 1 : Int))), (9, .ref (ma k)), (0, .ref x), (3, .ref (ra v1)), (5, .int (zI ((cnB (agP (aWd a) v1) (wM (aWd a))) : Int))), (6, .ref (ra9 (wN (aWd a)))), (7, .int (zI ((wM (aWd a) : Nat) : Int)))]) hx hb dX0_again_187 hl (k := 6) rfl ((zI_add _ _).trans (congrArg zI (by omega))) (by decide) rfl (fun ls hl => ?_)
                      refine lv_goto (tgt := 111) hx hb dX0_again_190 (by decide) ?_
                      have hl : lv_has ls 10 [(8, .int (zI ((k + 1 : Nat) : Int))), (9, .ref (ma k)), (0, .ref x), (3, .ref (ra v1)), (5, .int (zI ((cnB (agP (aWd a) v1) (wM (aWd a))) : Int))), (6, .ref (ra9 (wN (aWd a)))), (7, .int (zI ((wM (aWd a) : Nat) : Int)))] := by exact hl
                      exact ihA (wM (aWd a) - (k + 1)) (by omega) H locs ls _ _ (room_U hroom (show wM (aWd a) - (k + 1) < mz by omega)) ⟨(k + 1), G2, V_62, ma8, ⟨by omega, rfl, hle_F1.tr hle_G2, hW8, (fun m9 h9 => (hma8 m9 (by omega)).trans (hma m9 h9)), (hvD.tr (fun r9 h8 h9 => hB8 r9 (by omega)))⟩, hG, (lv_sub hl [2, 3, 4, 5, 6, 0] rfl)⟩
                    · rw [hd9] at hrmk
                      refine g_ci (va_runU (C := "LineRemarks$Wall") (As := []) (rest := [.ref wa]) ⟨hx, hb, hml, hown, hts⟩ (metX21_kind) (va_cwO 0 hts (lw_O q2196 q2199 q2197 q2215 q2216 q150 q2217) rfl rfl rfl q2218 (by decide +kernel) ⟨Nat.le_of_ble_eq_true rfl, Nat.le_of_ble_eq_true rfl⟩) (g_preV hG (g_recv hG (hG.fz (show F1.1 (ma k) = some (oB 19 _) from hrmk)) (ci := 19) rfl)) rfl rfl hl.1 rfl (lv_room (Nat.le_of_ble_eq_true rfl)) dX0_again_158 ⟨by show _ ≤ 24; omega, by show _ ≤ 320; omega⟩) hG (fun r_63 F_64 V_65 ws_ H locs hp hG => ?_)
                      obtain ⟨rfl, rfl, rfl, rfl⟩ := hp
                      have hG : gW X F1 U (Z) s H locs := hG
                      refine lv_aload hx hb dX0_again_161 (lv_at hl 0 rfl) ?_
                      refine g_rmget hx hb (show 5 ≤ 6 by decide) hts hown hG (hG.fz hrmk) 1 (by decide) (hts _ q2079) rfl dX0_again_163 ?_
                      refine lv_aload hx hb dX0_again_166 (lv_at hl 4 rfl) ?_
                      refine lv_aload hx hb dX0_again_168 (lv_at hl 0 rfl) ?_
                      refine g_rmget hx hb (show 5 ≤ 6 by decide) hts hown hG (hG.fz hrmk) 3 (by decide) (hts _ q2090) rfl dX0_again_170 ?_
                      refine lv_aload hx hb dX0_again_173 (lv_at hl 0 rfl) ?_
                      refine g_rmget hx hb (show 5 ≤ 6 by decide) hts hown hG (hG.fz hrmk) 4 (by decide) (hts _ q2097) rfl dX0_again_175 ?_
                      refine lv_aload hx hb dX0_again_178 (lv_at hl 0 rfl) ?_
                      refine g_rmget hx hb (show 5 ≤ 6 by decide) hts hown hG (hG.fz hrmk) 5 (by decide) (hts _ q2100) rfl dX0_again_180 ?_
                      refine g_ci (va_runV (As := [.int (zI 5), .int (zI (rBy (wRk (aWd a) k) : Int)), .ref (ra9 (wN (aWd a))), .int (zI (rP (wRk (aWd a) k) : Int)), .int (zI (rQ (wRk (aWd a) k) : Int)), .int (zI (oI (rAns (wRk (aWd a) k))))]) (rest := []) ⟨hx, hb, hml, hown, hts⟩ (metX2_make_m (kd := 5) (k9 := rBy (wRk (aWd a) k)) (on := wN (aWd a)) (pp := rP (wRk (aWd a) k)) (qq := rQ (wRk (aWd a) k)) (an := rAns (wRk (aWd a) k)) hWk hKk (by omega) (by decide)) (cwV 6 hts (lw_V q2047 q2048 q2049 q100 q2050) rfl rfl rfl (by decide +kernel) ⟨Nat.le_of_ble_eq_true rfl, Nat.le_of_ble_eq_true rfl⟩) (g_preV hG (g_recv hG (hG.vo hy4) (ci := 2) rfl)) rfl rfl hl.1 rfl (lv_room (Nat.le_of_ble_eq_true rfl)) dX0_again_183 ⟨by show _ ≤ 24; omega, by show _ ≤ 320; omega⟩) hG (fun r_66 G2 V_67 ws_ H locs hp hG => ?_)
                      obtain ⟨hle_G2, rfl, ma8, hW8, hB8, hma8, rfl⟩ := hp
                      have hG : gW X G2 V_67 (Z) s H locs := hG
                      have hag : agF (aWd a) v1 y1 (k + 1) = wMake (agF (aWd a) v1 y1 k) (5, rBy (wRk (aWd a) k), wN (aWd a), rP (wRk (aWd a) k), rQ (wRk (aWd a) k), rAns (wRk (aWd a) k)) := by rw [agF, if_pos hb9]; unfold agR; rw [hd9]
                      rw [← hag] at hW8
                      refine lv_pop hx hb dX0_again_186 rfl ?_
                      refine lv_iinc (v := zI (((k : Nat) : Int) + 1 : Int)) (lv' := [(8, .int (zI (((k : Nat) : Int) + 1 : Int))), (9, .ref (ma k)), (0, .ref x), (3, .ref (ra v1)), (5, .int (zI ((cnB (agP (aWd a) v1) (wM (aWd a))) : Int))), (6, .ref (ra9 (wN (aWd a)))), (7, .int (zI ((wM (aWd a) : Nat) : Int)))]) hx hb dX0_again_187 hl (k := 6) rfl ((zI_add _ _).trans (congrArg zI (by omega))) (by decide) rfl (fun ls hl => ?_)
                      refine lv_goto (tgt := 111) hx hb dX0_again_190 (by decide) ?_
                      have hl : lv_has ls 10 [(8, .int (zI ((k + 1 : Nat) : Int))), (9, .ref (ma k)), (0, .ref x), (3, .ref (ra v1)), (5, .int (zI ((cnB (agP (aWd a) v1) (wM (aWd a))) : Int))), (6, .ref (ra9 (wN (aWd a)))), (7, .int (zI ((wM (aWd a) : Nat) : Int)))] := by exact hl
                      exact ihA (wM (aWd a) - (k + 1)) (by omega) H locs ls _ _ (room_U hroom (show wM (aWd a) - (k + 1) < mz by omega)) ⟨(k + 1), G2, V_67, ma8, ⟨by omega, rfl, hle_F1.tr hle_G2, hW8, (fun m9 h9 => (hma8 m9 (by omega)).trans (hma m9 h9)), (hvD.tr (fun r9 h8 h9 => hB8 r9 (by omega)))⟩, hG, (lv_sub hl [2, 3, 4, 5, 6, 0] rfl)⟩
                    · rw [hd9] at hrmk
                      refine g_ci (va_runU (C := "LineRemarks$Tail") (As := []) (rest := [.ref wa]) ⟨hx, hb, hml, hown, hts⟩ (metX22_kind) (va_cwO 0 hts (lw_O q2196 q2199 q2197 q2212 q2213 q151 q2214) rfl rfl rfl q2218 (by decide +kernel) ⟨Nat.le_of_ble_eq_true rfl, Nat.le_of_ble_eq_true rfl⟩) (g_preV hG (g_recv hG (hG.fz (show F1.1 (ma k) = some (oB 20 _) from hrmk)) (ci := 20) rfl)) rfl rfl hl.1 rfl (lv_room (Nat.le_of_ble_eq_true rfl)) dX0_again_158 ⟨by show _ ≤ 24; omega, by show _ ≤ 320; omega⟩) hG (fun r_68 F_69 V_70 ws_ H locs hp hG => ?_)
                      obtain ⟨rfl, rfl, rfl, rfl⟩ := hp
                      have hG : gW X F1 U (Z) s H locs := hG
                      refine lv_aload hx hb dX0_again_161 (lv_at hl 0 rfl) ?_
                      refine g_rmget hx hb (show 6 ≤ 6 by decide) hts hown hG (hG.fz hrmk) 1 (by decide) (hts _ q2079) rfl dX0_again_163 ?_
                      refine lv_aload hx hb dX0_again_166 (lv_at hl 4 rfl) ?_
                      refine lv_aload hx hb dX0_again_168 (lv_at hl 0 rfl) ?_
                      refine g_rmget hx hb (show 6 ≤ 6 by decide) hts hown hG (hG.fz hrmk) 3 (by decide) (hts _ q2090) rfl dX0_again_170 ?_
                      refine lv_aload hx hb dX0_again_173 (lv_at hl 0 rfl) ?_
                      refine g_rmget hx hb (show 6 ≤ 6 by decide) hts hown hG (hG.fz hrmk) 4 (by decide) (hts _ q2097) rfl dX0_again_175 ?_
                      refine lv_aload hx hb dX0_again_178 (lv_at hl 0 rfl) ?_
                      refine g_rmget hx hb (show 6 ≤ 6 by decide) hts hown hG (hG.fz hrmk) 5 (by decide) (hts _ q2100) rfl dX0_again_180 ?_
                      refine g_ci (va_runV (As := [.int (zI 6), .int (zI (rBy (wRk (aWd a) k) : Int)), .ref (ra9 (wN (aWd a))), .int (zI (rP (wRk (aWd a) k) : Int)), .int (zI (rQ (wRk (aWd a) k) : Int)), .int (zI (oI (rAns (wRk (aWd a) k))))]) (rest := []) ⟨hx, hb, hml, hown, hts⟩ (metX2_make_m (kd := 6) (k9 := rBy (wRk (aWd a) k)) (on := wN (aWd a)) (pp := rP (wRk (aWd a) k)) (qq := rQ (wRk (aWd a) k)) (an := rAns (wRk (aWd a) k)) hWk hKk (by omega) (by decide)) (cwV 6 hts (lw_V q2047 q2048 q2049 q100 q2050) rfl rfl rfl (by decide +kernel) ⟨Nat.le_of_ble_eq_true rfl, Nat.le_of_ble_eq_true rfl⟩) (g_preV hG (g_recv hG (hG.vo hy4) (ci := 2) rfl)) rfl rfl hl.1 rfl (lv_room (Nat.le_of_ble_eq_true rfl)) dX0_again_183 ⟨by show _ ≤ 24; omega, by show _ ≤ 320; omega⟩) hG (fun r_71 G2 V_72 ws_ H locs hp hG => ?_)
                      obtain ⟨hle_G2, rfl, ma8, hW8, hB8, hma8, rfl⟩ := hp
                      have hG : gW X G2 V_72 (Z) s H locs := hG
                      have hag : agF (aWd a) v1 y1 (k + 1) = wMake (agF (aWd a) v1 y1 k) (6, rBy (wRk (aWd a) k), wN (aWd a), rP (wRk (aWd a) k), rQ (wRk (aWd a) k), rAns (wRk (aWd a) k)) := by rw [agF, if_pos hb9]; unfold agR; rw [hd9]
                      rw [← hag] at hW8
                      refine lv_pop hx hb dX0_again_186 rfl ?_
                      refine lv_iinc (v := zI (((k : Nat) : Int) + 1 : Int)) (lv' := [(8, .int (zI (((k : Nat) : Int) + 1 : Int))), (9, .ref (ma k)), (0, .ref x), (3, .ref (ra v1)), (5, .int (zI ((cnB (agP (aWd a) v1) (wM (aWd a))) : Int))), (6, .ref (ra9 (wN (aWd a)))), (7, .int (zI ((wM (aWd a) : Nat) : Int)))]) hx hb dX0_again_187 hl (k := 6) rfl ((zI_add _ _).trans (congrArg zI (by omega))) (by decide) rfl (fun ls hl => ?_)
                      refine lv_goto (tgt := 111) hx hb dX0_again_190 (by decide) ?_
                      have hl : lv_has ls 10 [(8, .int (zI ((k + 1 : Nat) : Int))), (9, .ref (ma k)), (0, .ref x), (3, .ref (ra v1)), (5, .int (zI ((cnB (agP (aWd a) v1) (wM (aWd a))) : Int))), (6, .ref (ra9 (wN (aWd a)))), (7, .int (zI ((wM (aWd a) : Nat) : Int)))] := by exact hl
                      exact ihA (wM (aWd a) - (k + 1)) (by omega) H locs ls _ _ (room_U hroom (show wM (aWd a) - (k + 1) < mz by omega)) ⟨(k + 1), G2, V_72, ma8, ⟨by omega, rfl, hle_F1.tr hle_G2, hW8, (fun m9 h9 => (hma8 m9 (by omega)).trans (hma m9 h9)), (hvD.tr (fun r9 h8 h9 => hB8 r9 (by omega)))⟩, hG, (lv_sub hl [2, 3, 4, 5, 6, 0] rfl)⟩
      · refine g_topz (y := 1) (by first | rfl | (rw [hb9]; rfl)) ?_
        refine g_ne (tgt := 26) hx hb dX0_again_19 (by decide) (by decide) (fun hq => ?_) (fun hq => ?_)
        · refine lv_iconst (v := zI 0) hx hb dX0_again_26 (by decide +kernel) ?_
          refine lv_bipush (v := zI (-6)) hx hb dX0_again_27 (by decide +kernel) ?_
          refine g_xv (vx_runS (As := [.int (zI 0), .int (zI (-6))]) (rest := []) ⟨hx, hb, hml, hown, hts⟩ (metX0_need_f (k := 6)) (va_cwS 2 hts (lw_S q520 q521 q87 q522) rfl rfl rfl (by decide +kernel) ⟨Nat.le_of_ble_eq_true rfl, Nat.le_of_ble_eq_true rfl⟩) (g_preS hG) rfl rfl hl.1 rfl (lv_room (Nat.le_of_ble_eq_true rfl)) dX0_again_29 ⟨by show _ ≤ 24; omega, by show _ ≤ 320; omega⟩) hG (fun E9 ce9 q9 Fx_76 Vx_77 ws_ H locs hpx hG hce => ?_) (fun F_74 V_75 ws_ H locs hp hG => ?_)
          · obtain ⟨rfl, hle_Fx_76, hq9, rfl, rfl⟩ := hpx
            have hG : gW X Fx_76 V (Z) s H locs := hG
            refine g_catch (name := "LineRemarks$Refused") hown htab [] ⟨0, 195, 196, 21⟩ [] rfl (fun z9 hz9 => absurd hz9 List.not_mem_nil) (by decide) (by decide) (hts _ q410) (hG.1.2.1.1 _ qn498) hce ?_
            refine lv_astore_n (lv' := [(3, .ref q9), (4, .ref (ra y1)), (0, .ref x), (1, .int (zI (v1 : Int))), (2, .int (zI (y1 : Int)))]) hx hb dX0_again_196 rfl hl (by decide) rfl (fun ls hl => ?_)
            refine lv_aload_n hx hb dX0_again_197 rfl (lv_at hl 2 rfl) ?_
            refine lv_aload_n hx hb dX0_again_198 rfl (lv_at hl 0 rfl) ?_
            refine g_ci (va_runV (As := [.ref q9]) (rest := []) ⟨hx, hb, hml, hown, hts⟩ (metX0_refused (k := 6) (hS.mono hle_Fx_76) hA hq9 (by decide)) (cwV 1 hts (lw_V q589 q591 qs2 q87 q592) rfl rfl rfl (by decide +kernel) ⟨Nat.le_of_ble_eq_true rfl, Nat.le_of_ble_eq_true rfl⟩) (g_preV hG (g_recv hG (hG.vo hx0) (ci := 0) rfl)) rfl rfl hl.1 rfl (lv_room (Nat.le_of_ble_eq_true rfl)) dX0_again_199 ⟨by show _ ≤ 24; omega, by show _ ≤ 320; omega⟩) hG (fun r_78 F_79 V_80 ws_ H locs hp hG => ?_)
            obtain ⟨rfl, rfl, hS9, rfl⟩ := hp
            have hG : gW X Fx_76 V_80 (Z) s H locs := hG
            refine vx_ret ?_
            exact g_iret hx hb hr hlocks hG (by have e9 : opAgain a (v1 : Int) (y1 : Int) = aNoR a 6 := (by unfold opAgain; rw [if_neg (by omega), show beh (wFo (aWd a)) ((y1 : Nat) : Int).toNat ((v1 : Nat) : Int).toNat = some n from hb9]; first | done | rfl); rw [e9]; exact ⟨hle_Fx_76, rfl, hS9.ex, rfl⟩) ⟨by show _ ≤ 24; omega, by show _ ≤ 320; omega⟩ dX0_again_202
          exact hp.elim
        · exfalso; omega
    · refine g_xr (vx_runV (As := [.int (zI y)]) (rest := []) ⟨hx, hb, hml, hown, hts⟩ (metX0_revision_f hS hA (by omega)) (cwV 1 hts (lw_V q737 q739 qs4 q87 q740) rfl rfl rfl (by decide +kernel) ⟨Nat.le_of_ble_eq_true rfl, Nat.le_of_ble_eq_true rfl⟩) (g_preV hG (g_recv hG (hG.vo hx0) (ci := 0) rfl)) rfl rfl hl.1 rfl (lv_room (Nat.le_of_ble_eq_true rfl)) dX0_again_8 ⟨by show _ ≤ 24; omega, by show _ ≤ 320; omega⟩) hG (fun E9 ce9 q9 Fx_84 Vx_85 ws_ H locs hpx hG hce => ?_) (fun r_81 F_82 V_83 ws_ H locs hp hG => ?_)
      · obtain ⟨rfl, hle_Fx_84, hq9, rfl, rfl⟩ := hpx
        have hG : gW X Fx_84 V (Z) s H locs := hG
        refine g_catch (name := "LineRemarks$Refused") hown htab [] ⟨0, 195, 196, 21⟩ [] rfl (fun z9 hz9 => absurd hz9 List.not_mem_nil) (by decide) (by decide) (hts _ q410) (hG.1.2.1.1 _ qn498) hce ?_
        refine lv_astore_n (lv' := [(3, .ref q9), (0, .ref x), (1, .int (zI (v1 : Int))), (2, .int (zI y))]) hx hb dX0_again_196 rfl hl (by decide) rfl (fun ls hl => ?_)
        refine lv_aload_n hx hb dX0_again_197 rfl (lv_at hl 1 rfl) ?_
        refine lv_aload_n hx hb dX0_again_198 rfl (lv_at hl 0 rfl) ?_
        refine g_ci (va_runV (As := [.ref q9]) (rest := []) ⟨hx, hb, hml, hown, hts⟩ (metX0_refused (k := 1) (hS.mono hle_Fx_84) hA hq9 (by decide)) (cwV 1 hts (lw_V q589 q591 qs2 q87 q592) rfl rfl rfl (by decide +kernel) ⟨Nat.le_of_ble_eq_true rfl, Nat.le_of_ble_eq_true rfl⟩) (g_preV hG (g_recv hG (hG.vo hx0) (ci := 0) rfl)) rfl rfl hl.1 rfl (lv_room (Nat.le_of_ble_eq_true rfl)) dX0_again_199 ⟨by show _ ≤ 24; omega, by show _ ≤ 320; omega⟩) hG (fun r_86 F_87 V_88 ws_ H locs hp hG => ?_)
        obtain ⟨rfl, rfl, hS9, rfl⟩ := hp
        have hG : gW X Fx_84 V_88 (Z) s H locs := hG
        refine vx_ret ?_
        exact g_iret hx hb hr hlocks hG (by have e9 : opAgain a (v1 : Int) y = aNoR a 1 := (by unfold opAgain; rw [if_pos (by omega)]; first | done | rfl); rw [e9]; exact ⟨hle_Fx_84, rfl, hS9.ex, rfl⟩) ⟨by show _ ≤ 24; omega, by show _ ≤ 320; omega⟩ dX0_again_202
      exact hp.elim
  · refine g_xr (vx_runV (As := [.int (zI v)]) (rest := []) ⟨hx, hb, hml, hown, hts⟩ (metX0_revision_f hS hA (by omega)) (cwV 1 hts (lw_V q737 q739 qs4 q87 q740) rfl rfl rfl (by decide +kernel) ⟨Nat.le_of_ble_eq_true rfl, Nat.le_of_ble_eq_true rfl⟩) (g_preV hG (g_recv hG (hG.vo hx0) (ci := 0) rfl)) rfl rfl hl.1 rfl (lv_room (Nat.le_of_ble_eq_true rfl)) dX0_again_2 ⟨by show _ ≤ 24; omega, by show _ ≤ 320; omega⟩) hG (fun E9 ce9 q9 Fx_92 Vx_93 ws_ H locs hpx hG hce => ?_) (fun r_89 F_90 V_91 ws_ H locs hp hG => ?_)
    · obtain ⟨rfl, hle_Fx_92, hq9, rfl, rfl⟩ := hpx
      have hG : gW X Fx_92 V (Z) s H locs := hG
      refine g_catch (name := "LineRemarks$Refused") hown htab [] ⟨0, 195, 196, 21⟩ [] rfl (fun z9 hz9 => absurd hz9 List.not_mem_nil) (by decide) (by decide) (hts _ q410) (hG.1.2.1.1 _ qn498) hce ?_
      refine lv_astore_n (lv' := [(3, .ref q9), (0, .ref x), (1, .int (zI v)), (2, .int (zI y))]) hx hb dX0_again_196 rfl hl (by decide) rfl (fun ls hl => ?_)
      refine lv_aload_n hx hb dX0_again_197 rfl (lv_at hl 1 rfl) ?_
      refine lv_aload_n hx hb dX0_again_198 rfl (lv_at hl 0 rfl) ?_
      refine g_ci (va_runV (As := [.ref q9]) (rest := []) ⟨hx, hb, hml, hown, hts⟩ (metX0_refused (k := 1) (hS.mono hle_Fx_92) hA hq9 (by decide)) (cwV 1 hts (lw_V q589 q591 qs2 q87 q592) rfl rfl rfl (by decide +kernel) ⟨Nat.le_of_ble_eq_true rfl, Nat.le_of_ble_eq_true rfl⟩) (g_preV hG (g_recv hG (hG.vo hx0) (ci := 0) rfl)) rfl rfl hl.1 rfl (lv_room (Nat.le_of_ble_eq_true rfl)) dX0_again_199 ⟨by show _ ≤ 24; omega, by show _ ≤ 320; omega⟩) hG (fun r_94 F_95 V_96 ws_ H locs hp hG => ?_)
      obtain ⟨rfl, rfl, hS9, rfl⟩ := hp
      have hG : gW X Fx_92 V_96 (Z) s H locs := hG
      refine vx_ret ?_
      exact g_iret hx hb hr hlocks hG (by have e9 : opAgain a v y = aNoR a 1 := (by unfold opAgain; rw [if_pos (by omega)]; first | done | rfl); rw [e9]; exact ⟨hle_Fx_92, rfl, hS9.ex, rfl⟩) ⟨by show _ ≤ 24; omega, by show _ ≤ 320; omega⟩ dX0_again_202
    exact hp.elim

