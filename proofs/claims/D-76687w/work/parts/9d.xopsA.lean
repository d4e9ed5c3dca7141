set_option maxRecDepth 100000
set_option maxHeartbeats 4000000 in
theorem metX0_shelvesFollow {l : Launch} {X : gX} {F : gF} {V : gV} {Z : va_W} {x sa rf tr kl wa8 rv8 rk8 st8 : Nat} {im : Option Nat} {z9 : Int} {sh ra ma rai lai mai : Nat → Nat} {v w : aW} {sv : Nat → aSh} {fs9 : Nat → Option Nat} (hx0 : V 0 = some (x, oB 0 [.ref sa, .ref rf, .ref tr, .ref kl, .ref wa8, va_rf im, .int (zI z9)])) (hx1 : F.1 sa = some (aR (gT X 9) 8 fs9)) (hsh : ∀ i, i < 8 → fs9 i = some (sh i)) (hW8 : xWd X F V 4 v wa8 rv8 rk8 st8 rai lai mai) (hKv : wOK v) (hK : wOK w) (hMo : ∀ m, m < wM w → isRmk F ra (ma m) (rKind (wRk w m)) m (wRk w m)) (hsv : ∀ i, i < 8 → xSh X F V ma i (sh i) (sv i)) (hok : ∀ i, shOK (wM w) (sv i)) : Met l yX0_shelvesFollow (ws_ yX0_shelvesFollow cX0_shelvesFollow 6 none) ({ frames := 1, cells := 0, slots := 0, locals := 21 }) (gP X F V (Z) [.ref x]) (gQv X (fun G U ws => F = G ∧ (∀ r, (r < 20 ∨ 28 ≤ r) → U r = V r) ∧ (∀ i, i < 8 → xSh X F U mai i (sh i) (shR v (sv i))) ∧ Z = ws)) 0 0 (gA X) := by
  refine Met.g (by decide) (Nat.le_of_ble_eq_true rfl) ?_
  intro p e s m below meth c ls hx hb hr hts hown hlocks hml hin hG hl
  have hl : lv_has ls 6 [(0, .ref x)] := hl
  have hMv := hKv.m
  have hMo2 := hK.m
  refine lv_aload_n hx hb dX0_shelvesFollow_0 rfl (lv_at hl 0 rfl) ?_
  refine g_get (ci := 0) hx hb hts in_X0 hown hG (hG.vo hx0) rfl 0 (Nat.le_of_ble_eq_true rfl) (hts _ q384) (fun _ h9 => h9) rfl dX0_shelvesFollow_1 ?_
  refine lv_astore_n (lv' := [(1, .ref sa), (0, .ref x)]) hx hb dX0_shelvesFollow_4 rfl hl (by decide) rfl (fun ls hl => ?_)
  refine lv_aload_n hx hb dX0_shelvesFollow_5 rfl (lv_at hl 0 rfl) ?_
  refine g_alen hx hb hG 9 rfl (hG.fz hx1) dX0_shelvesFollow_6 ?_
  refine g_topz (y := 8) rfl ?_
  refine lv_istore_n (lv' := [(2, .int (zI 8)), (1, .ref sa), (0, .ref x)]) hx hb dX0_shelvesFollow_7 rfl hl (by decide) rfl (fun ls hl => ?_)
  refine lv_iconst (v := zI 0) hx hb dX0_shelvesFollow_8 (by decide +kernel) ?_
  refine lv_istore_n (lv' := [(3, .int (zI 0)), (2, .int (zI 8)), (1, .ref sa), (0, .ref x)]) hx hb dX0_shelvesFollow_9 rfl hl (by decide) rfl (fun ls hl => ?_)
  have hl : lv_has ls 6 [(3, .int (zI ((0 : Nat) : Int))), (2, .int (zI 8)), (1, .ref sa), (0, .ref x)] := by exact hl
  refine g_loop (fun mz H locs ls => ∃ (k : Nat) (U : gV), (k ≤ 8 ∧ mz = 8 - k ∧ (∀ r, (r < 20 ∨ 28 ≤ r) → U r = V r) ∧ (∀ i, i < k → xSh X F U mai i (sh i) (shR v (sv i))) ∧ (∀ i, k ≤ i → i < 8 → xSh X F U ma i (sh i) (sv i))) ∧ gW X F U (Z) s H locs ∧ lv_has ls 6 [(0, .ref x), (1, .ref sa), (2, .int (zI 8)), (3, .int (zI ((k : Nat) : Int)))]) (8 - 0) ⟨0, V, ⟨by omega, rfl, fun _ _ => rfl, fun i hi => absurd hi (Nat.not_lt_zero _), fun i _ hi => hsv i hi⟩, hG, (lv_sub hl [3, 2, 1, 0] rfl)⟩ (fun mz ihA H locs ls hI => ?_)
  obtain ⟨k, U, ⟨hk, hmz, hU, hd, hn⟩, hG, hl⟩ := hI
  have hy0 := (hU 0 (by omega)).trans hx0
  have hWU : xWd X F U 4 v wa8 rv8 rk8 st8 rai lai mai := hW8.cg (fun r9 h8 h9 => hU r9 (by omega))
  have hWU2 := hWU
  obtain ⟨hy4, -, ⟨fM, hy6, hwM⟩, -, -, hMk⟩ := hWU2
  have hy4 : U 4 = some (wa8, oB 2 [.int (zI (wN v : Int)), .int (zI (wM v : Int)), .int (zI (wRun v : Int)), .int (zI (wNeed v : Int)), .int (zI (wMar v : Int)), .int (wSeed v), .ref rv8, .ref rk8, .ref st8]) := hy4
  have hy6 : U 6 = some (rk8, aR (gT X 8) 16 fM) := hy6
  refine lv_iload_n hx hb dX0_shelvesFollow_10 rfl (lv_at hl 3 rfl) ?_
  refine lv_iload_n hx hb dX0_shelvesFollow_11 rfl (lv_at hl 2 rfl) ?_
  refine g_cge (tgt := 78) hx hb dX0_shelvesFollow_12 (by decide) (by omega) (fun h1 => ?_) (fun h1 => ?_)
  · have hk8 : k = 8 := by omega
    exact g_vret hx hb hr hlocks hG (⟨rfl, hU, fun i hi => hd i (by omega), rfl⟩) ⟨Nat.le_of_ble_eq_true rfl, Nat.le_of_ble_eq_true rfl⟩ dX0_shelvesFollow_78
  · refine lv_aload_n hx hb dX0_shelvesFollow_15 rfl (lv_at hl 1 rfl) ?_
    refine lv_iload_n hx hb dX0_shelvesFollow_16 rfl (lv_at hl 3 rfl) ?_
    refine g_aald hx hb hG 9 rfl rfl (hG.fz hx1) k ⟨rfl, by omega, by omega⟩ (v := .ref (sh k)) (congrArg va_rf (hsh k (by omega))) dX0_shelvesFollow_17 ?_
    have hxk := hn k (Nat.le_refl k) (by omega)
    have hokk := hok k
    refine lv_astore (lv' := [(4, .ref (sh k)), (0, .ref x), (1, .ref sa), (2, .int (zI 8)), (3, .int (zI ((k : Nat) : Int)))]) hx hb dX0_shelvesFollow_18 hl (by decide) rfl (fun ls hl => ?_)
    refine lv_aload hx hb dX0_shelvesFollow_20 (lv_at hl 0 rfl) ?_
    rcases hqs : sv k with _ | m1 | ⟨so1, n9, f9⟩
    · rw [hqs] at hxk hokk
      have hxk : U (20 + k) = some (sh k, oB 3 [.null]) := hxk
      refine g_ci (va_runV (As := []) (rest := []) ⟨hx, hb, hml, hown, hts⟩ (metX3_holdsRemark_n (rj := 20 + k) hxk) (cwV 0 hts (lw_V q639 q640 q641 q101 q642) rfl rfl rfl (by decide +kernel) ⟨Nat.le_of_ble_eq_true rfl, Nat.le_of_ble_eq_true rfl⟩) (g_preV hG (g_recv hG (hG.vo hxk) (ci := 3) rfl)) rfl rfl hl.1 rfl (lv_room (Nat.le_of_ble_eq_true rfl)) dX0_shelvesFollow_22 ⟨Nat.le_of_ble_eq_true rfl, Nat.le_of_ble_eq_true rfl⟩) hG (fun r_1 F_2 V_3 ws_ H locs hp hG => ?_)
      obtain ⟨rfl, rfl, rfl, rfl⟩ := hp
      have hG : gW X F U (Z) s H locs := hG
      refine g_eq (tgt := 72) hx hb dX0_shelvesFollow_25 (by decide) (by decide) (fun h2 => ?_) (fun h2 => ?_)
      · refine lv_iinc (v := zI (((k : Nat) : Int) + 1 : Int)) (lv' := [(3, .int (zI (((k : Nat) : Int) + 1 : Int))), (4, .ref (sh k)), (0, .ref x), (1, .ref sa), (2, .int (zI 8))]) hx hb dX0_shelvesFollow_72 hl (k := 4) rfl ((zI_add _ _).trans (congrArg zI (by omega))) (by decide) rfl (fun ls hl => ?_)
        refine lv_goto (tgt := 10) hx hb dX0_shelvesFollow_75 (by decide) ?_
        have hl : lv_has ls 6 [(3, .int (zI ((k + 1 : Nat) : Int))), (4, .ref (sh k)), (0, .ref x), (1, .ref sa), (2, .int (zI 8))] := by exact hl
        exact ihA (8 - (k + 1)) (by omega) H locs ls ⟨(k + 1), U, ⟨by omega, rfl, hU, fun i hi => by by_cases e : i = k; (rw [e, hqs]; exact hxk); exact hd i (by omega), fun i h1 h2 => hn i (by omega) h2⟩, hG, (lv_sub hl [2, 3, 4, 0] rfl)⟩
      · exfalso; omega
    · rw [hqs] at hxk hokk
      have hm9 : m1 < wM w := hokk
      have hrm1 := hMo m1 hm9
      have hkd1 := (hK.rk hm9).1
      have hxk : U (20 + k) = some (sh k, oB 3 [.ref (ma m1)]) := hxk
      refine g_ci (va_runV (As := []) (rest := []) ⟨hx, hb, hml, hown, hts⟩ (metX3_holdsRemark_m (rj := 20 + k) hxk hkd1 hrm1) (cwV 0 hts (lw_V q639 q640 q641 q101 q642) rfl rfl rfl (by decide +kernel) ⟨Nat.le_of_ble_eq_true rfl, Nat.le_of_ble_eq_true rfl⟩) (g_preV hG (g_recv hG (hG.vo hxk) (ci := 3) rfl)) rfl rfl hl.1 rfl (lv_room (Nat.le_of_ble_eq_true rfl)) dX0_shelvesFollow_22 ⟨Nat.le_of_ble_eq_true rfl, Nat.le_of_ble_eq_true rfl⟩) hG (fun r_4 F_5 V_6 ws_ H locs hp hG => ?_)
      obtain ⟨rfl, rfl, rfl, rfl⟩ := hp
      have hG : gW X F U (Z) s H locs := hG
      refine g_eq (tgt := 72) hx hb dX0_shelvesFollow_25 (by decide) (by decide) (fun h2 => ?_) (fun h2 => ?_)
      · exfalso; omega
      · refine lv_aload hx hb dX0_shelvesFollow_28 (lv_at hl 0 rfl) ?_
        refine g_get (ci := 3) hx hb hts in_X3 hown hG (hG.vo hxk) rfl 0 (Nat.le_of_ble_eq_true rfl) (hts _ q380) (fun _ h9 => h9) rfl dX0_shelvesFollow_30 ?_
        refine g_castR hx hb hown (hts _ q712) hkd1 (hG.fz hrm1) hG dX0_shelvesFollow_33 ?_
        refine g_rmget hx hb hkd1 hts hown hG (hG.fz hrm1) 0 (by decide) (hts _ q2066) rfl dX0_shelvesFollow_36 ?_
        refine lv_istore (lv' := [(5, .int (zI (m1 : Int))), (4, .ref (sh k)), (0, .ref x), (1, .ref sa), (2, .int (zI 8)), (3, .int (zI ((k : Nat) : Int)))]) hx hb dX0_shelvesFollow_39 hl (by decide) rfl (fun ls hl => ?_)
        refine lv_aload hx hb dX0_shelvesFollow_41 (lv_at hl 1 rfl) ?_
        refine lv_aload_n hx hb dX0_shelvesFollow_43 rfl (lv_at hl 2 rfl) ?_
        refine g_get (ci := 0) hx hb hts in_X0 hown hG (hG.vo hy0) rfl 4 (Nat.le_of_ble_eq_true rfl) (hts _ q388) (fun _ h9 => h9) rfl dX0_shelvesFollow_44 ?_
        refine lv_iload hx hb dX0_shelvesFollow_47 (lv_at hl 0 rfl) ?_
        by_cases hmv : m1 < wM v
        · refine g_ci (va_runV (As := [.int (zI (m1 : Int))]) (rest := [.ref (sh k)]) ⟨hx, hb, hml, hown, hts⟩ (metX2_isRemark hWU hKv (by omega)) (cwV 1 hts (lw_V q704 q705 q706 q100 q707) rfl rfl rfl (by decide +kernel) ⟨Nat.le_of_ble_eq_true rfl, Nat.le_of_ble_eq_true rfl⟩) (g_preV hG (g_recv hG (hG.vo hy4) (ci := 2) rfl)) rfl rfl hl.1 rfl (lv_room (Nat.le_of_ble_eq_true rfl)) dX0_shelvesFollow_49 ⟨Nat.le_of_ble_eq_true rfl, Nat.le_of_ble_eq_true rfl⟩) hG (fun r_7 F_8 V_9 ws_ H locs hp hG => ?_)
          obtain ⟨rfl, rfl, rfl, rfl⟩ := hp
          have hG : gW X F U (Z) s H locs := hG
          refine g_topz (y := 1) (by rw [decide_eq_true (by omega)]; rfl) ?_
          refine g_eq (tgt := 68) hx hb dX0_shelvesFollow_52 (by decide) (by decide) (fun hq => ?_) (fun hq => ?_)
          · exfalso; omega
          · refine lv_aload_n hx hb dX0_shelvesFollow_55 rfl (lv_at hl 2 rfl) ?_
            refine g_get (ci := 0) hx hb hts in_X0 hown hG (hG.vo hy0) rfl 4 (Nat.le_of_ble_eq_true rfl) (hts _ q388) (fun _ h9 => h9) rfl dX0_shelvesFollow_56 ?_
            refine g_get (ci := 2) hx hb hts in_X2 hown hG (hG.vo hy4) rfl 7 (Nat.le_of_ble_eq_true rfl) (hts _ q351) (fun _ h9 => h9) rfl dX0_shelvesFollow_59 ?_
            refine lv_iload hx hb dX0_shelvesFollow_62 (lv_at hl 0 rfl) ?_
            refine g_aald hx hb hG 8 rfl rfl (hG.vo hy6) m1 ⟨rfl, by omega, by omega⟩ (v := .ref (mai m1)) (congrArg va_rf (hwM m1 (by omega))) dX0_shelvesFollow_64 ?_
            refine lv_goto (tgt := 69) hx hb dX0_shelvesFollow_65 (by decide) ?_
            refine g_putV (ci := 3) hx hb hts in_X3 tyX3 tyX3_ok nmX3 hown hG hxk rfl 0 (Nat.le_of_ble_eq_true rfl) (hts _ q380) (fun _ h9 => h9) rfl (tyX3_ok 0 (Nat.le_of_ble_eq_true rfl)) rfl rfl (Nat.le_of_ble_eq_true rfl) dX0_shelvesFollow_69 (fun H locs (hG : gW X F (va_up U (20 + k) (some ((sh k), oB 3 [.ref (mai m1)]))) (Z) s H locs) => ?_)
            have hy0 : (va_up U (20 + k) (some ((sh k), oB 3 [.ref (mai m1)]))) 0 = some (x, oB 0 [.ref sa, .ref rf, .ref tr, .ref kl, .ref wa8, va_rf im, .int (zI z9)]) := (vun (by omega)).trans hy0
            have hy4 : (va_up U (20 + k) (some ((sh k), oB 3 [.ref (mai m1)]))) 4 = some (wa8, oB 2 [.int (zI (wN v : Int)), .int (zI (wM v : Int)), .int (zI (wRun v : Int)), .int (zI (wNeed v : Int)), .int (zI (wMar v : Int)), .int (wSeed v), .ref rv8, .ref rk8, .ref st8]) := (vun (by omega)).trans hy4
            have hy6 : (va_up U (20 + k) (some ((sh k), oB 3 [.ref (mai m1)]))) 6 = some (rk8, aR (gT X 8) 16 fM) := (vun (by omega)).trans hy6
            have hxk : (va_up U (20 + k) (some ((sh k), oB 3 [.ref (mai m1)]))) (20 + k) = some ((sh k), oB 3 [.ref (mai m1)]) := vus
            refine lv_iinc (v := zI (((k : Nat) : Int) + 1 : Int)) (lv' := [(3, .int (zI (((k : Nat) : Int) + 1 : Int))), (5, .int (zI (m1 : Int))), (4, .ref (sh k)), (0, .ref x), (1, .ref sa), (2, .int (zI 8))]) hx hb dX0_shelvesFollow_72 hl (k := 5) rfl ((zI_add _ _).trans (congrArg zI (by omega))) (by decide) rfl (fun ls hl => ?_)
            refine lv_goto (tgt := 10) hx hb dX0_shelvesFollow_75 (by decide) ?_
            have hl : lv_has ls 6 [(3, .int (zI ((k + 1 : Nat) : Int))), (5, .int (zI (m1 : Int))), (4, .ref (sh k)), (0, .ref x), (1, .ref sa), (2, .int (zI 8))] := by exact hl
            exact ihA (8 - (k + 1)) (by omega) H locs ls ⟨(k + 1), (va_up U (20 + k) (some ((sh k), oB 3 [.ref (mai m1)]))), ⟨by omega, rfl, fun r9 h9 => (va_up_ne _ _ (by omega)).trans (hU r9 h9), fun i hi => by by_cases e : i = k; (rw [e, hqs, show shR v (some (.inl m1)) = some (.inl m1) from if_pos hmv]; exact va_up_self _ _ _); exact (hd i (by omega)).cg ⟨va_up_ne _ _ (by omega), va_up_ne _ _ (by omega)⟩, fun i h1 h2 => (hn i (by omega) h2).cg ⟨va_up_ne _ _ (by omega), va_up_ne _ _ (by omega)⟩⟩, hG, (lv_sub hl [3, 4, 5, 0] rfl)⟩
        · refine g_ci (va_runV (As := [.int (zI (m1 : Int))]) (rest := [.ref (sh k)]) ⟨hx, hb, hml, hown, hts⟩ (metX2_isRemark hWU hKv (by omega)) (cwV 1 hts (lw_V q704 q705 q706 q100 q707) rfl rfl rfl (by decide +kernel) ⟨Nat.le_of_ble_eq_true rfl, Nat.le_of_ble_eq_true rfl⟩) (g_preV hG (g_recv hG (hG.vo hy4) (ci := 2) rfl)) rfl rfl hl.1 rfl (lv_room (Nat.le_of_ble_eq_true rfl)) dX0_shelvesFollow_49 ⟨Nat.le_of_ble_eq_true rfl, Nat.le_of_ble_eq_true rfl⟩) hG (fun r_10 F_11 V_12 ws_ H locs hp hG => ?_)
          obtain ⟨rfl, rfl, rfl, rfl⟩ := hp
          have hG : gW X F U (Z) s H locs := hG
          refine g_topz (y := 0) (by rw [decide_eq_false (by omega)]; rfl) ?_
          refine g_eq (tgt := 68) hx hb dX0_shelvesFollow_52 (by decide) (by decide) (fun h4 => ?_) (fun h4 => ?_)
          · refine lv_null hx hb dX0_shelvesFollow_68 ?_
            refine g_putV (ci := 3) hx hb hts in_X3 tyX3 tyX3_ok nmX3 hown hG hxk rfl 0 (Nat.le_of_ble_eq_true rfl) (hts _ q380) (fun _ h9 => h9) rfl (tyX3_ok 0 (Nat.le_of_ble_eq_true rfl)) rfl rfl (Nat.le_of_ble_eq_true rfl) dX0_shelvesFollow_69 (fun H locs (hG : gW X F (va_up U (20 + k) (some ((sh k), oB 3 [.null]))) (Z) s H locs) => ?_)
            have hy0 : (va_up U (20 + k) (some ((sh k), oB 3 [.null]))) 0 = some (x, oB 0 [.ref sa, .ref rf, .ref tr, .ref kl, .ref wa8, va_rf im, .int (zI z9)]) := (vun (by omega)).trans hy0
            have hy4 : (va_up U (20 + k) (some ((sh k), oB 3 [.null]))) 4 = some (wa8, oB 2 [.int (zI (wN v : Int)), .int (zI (wM v : Int)), .int (zI (wRun v : Int)), .int (zI (wNeed v : Int)), .int (zI (wMar v : Int)), .int (wSeed v), .ref rv8, .ref rk8, .ref st8]) := (vun (by omega)).trans hy4
            have hy6 : (va_up U (20 + k) (some ((sh k), oB 3 [.null]))) 6 = some (rk8, aR (gT X 8) 16 fM) := (vun (by omega)).trans hy6
            have hxk : (va_up U (20 + k) (some ((sh k), oB 3 [.null]))) (20 + k) = some ((sh k), oB 3 [.null]) := vus
            refine lv_iinc (v := zI (((k : Nat) : Int) + 1 : Int)) (lv' := [(3, .int (zI (((k : Nat) : Int) + 1 : Int))), (5, .int (zI (m1 : Int))), (4, .ref (sh k)), (0, .ref x), (1, .ref sa), (2, .int (zI 8))]) hx hb dX0_shelvesFollow_72 hl (k := 5) rfl ((zI_add _ _).trans (congrArg zI (by omega))) (by decide) rfl (fun ls hl => ?_)
            refine lv_goto (tgt := 10) hx hb dX0_shelvesFollow_75 (by decide) ?_
            have hl : lv_has ls 6 [(3, .int (zI ((k + 1 : Nat) : Int))), (5, .int (zI (m1 : Int))), (4, .ref (sh k)), (0, .ref x), (1, .ref sa), (2, .int (zI 8))] := by exact hl
            exact ihA (8 - (k + 1)) (by omega) H locs ls ⟨(k + 1), (va_up U (20 + k) (some ((sh k), oB 3 [.null]))), ⟨by omega, rfl, fun r9 h9 => (va_up_ne _ _ (by omega)).trans (hU r9 h9), fun i hi => by by_cases e : i = k; (rw [e, hqs, show shR v (some (.inl m1)) = none from if_neg hmv]; exact va_up_self _ _ _); exact (hd i (by omega)).cg ⟨va_up_ne _ _ (by omega), va_up_ne _ _ (by omega)⟩, fun i h1 h2 => (hn i (by omega) h2).cg ⟨va_up_ne _ _ (by omega), va_up_ne _ _ (by omega)⟩⟩, hG, (lv_sub hl [3, 4, 5, 0] rfl)⟩
          · exfalso; omega
    · rw [hqs] at hxk hokk
      have hxk2 := hxk
      obtain ⟨ro, ar, hxk, hro, hVr, hfx⟩ := hxk
      obtain ⟨hso, hn160⟩ : so1 ≤ 3 ∧ n9 ≤ 160 := hokk
      refine g_ci (va_runV (As := []) (rest := []) ⟨hx, hb, hml, hown, hts⟩ (metX3_holdsRemark_r (rj := 20 + k) hxk hso hro) (cwV 0 hts (lw_V q639 q640 q641 q101 q642) rfl rfl rfl (by decide +kernel) ⟨Nat.le_of_ble_eq_true rfl, Nat.le_of_ble_eq_true rfl⟩) (g_preV hG (g_recv hG (hG.vo hxk) (ci := 3) rfl)) rfl rfl hl.1 rfl (lv_room (Nat.le_of_ble_eq_true rfl)) dX0_shelvesFollow_22 ⟨Nat.le_of_ble_eq_true rfl, Nat.le_of_ble_eq_true rfl⟩) hG (fun r_13 F_14 V_15 ws_ H locs hp hG => ?_)
      obtain ⟨rfl, rfl, rfl, rfl⟩ := hp
      have hG : gW X F U (Z) s H locs := hG
      refine g_eq (tgt := 72) hx hb dX0_shelvesFollow_25 (by decide) (by decide) (fun h2 => ?_) (fun h2 => ?_)
      · refine lv_iinc (v := zI (((k : Nat) : Int) + 1 : Int)) (lv' := [(3, .int (zI (((k : Nat) : Int) + 1 : Int))), (4, .ref (sh k)), (0, .ref x), (1, .ref sa), (2, .int (zI 8))]) hx hb dX0_shelvesFollow_72 hl (k := 4) rfl ((zI_add _ _).trans (congrArg zI (by omega))) (by decide) rfl (fun ls hl => ?_)
        refine lv_goto (tgt := 10) hx hb dX0_shelvesFollow_75 (by decide) ?_
        have hl : lv_has ls 6 [(3, .int (zI ((k + 1 : Nat) : Int))), (4, .ref (sh k)), (0, .ref x), (1, .ref sa), (2, .int (zI 8))] := by exact hl
        exact ihA (8 - (k + 1)) (by omega) H locs ls ⟨(k + 1), U, ⟨by omega, rfl, hU, fun i hi => by by_cases e : i = k; (rw [e, hqs]; exact hxk2); exact hd i (by omega), fun i h1 h2 => hn i (by omega) h2⟩, hG, (lv_sub hl [2, 3, 4, 0] rfl)⟩
      · exfalso; omega

set_option maxHeartbeats 4000000 in
theorem metX0_restore {l : Launch} {X : gX} {F : gF} {V : gV} {Z : va_W} {x sa rf tr tb kl wa rv rk st : Nat} {sh ra la ma : Nat → Nat} {im : Option Nat} {a : aS} (hS : xS X F V x a sa rf tr tb kl wa rv rk st sh ra la ma im) (hA : aOK a) (hst : l.stackTraces = false)  : vx_Met l yX0_restore (wsW_ yX0_restore cX0_restore 2 (some FieldType.int) [(0, 46, 47, 21)]) ({ frames := 5, cells := 8, slots := 400, locals := 110 }) (gP X F V (Z) [.ref x]) (gQi X (fun u G U ws => gLe F G ∧ u = zI (opRestore a).1 ∧ xX X G U x (opRestore a).2 ∧ Z = ws)) (gXc X (fun _ _ _ _ _ => False)) 8 400 (gA X) := by
  refine vx_Met.gH (by decide) (Nat.le_of_ble_eq_true rfl) ?_
  intro p e s m below meth c ls hx hb hr hts hown hlocks hml hin htab hG hl
  have hl : lv_has ls 2 [(0, .ref x)] := hl
  have hSA := hS
  obtain ⟨hx0, ⟨fs9, hx1, hsh⟩, ⟨gr9, hx2, hgr⟩, hx3, hx4, hW, hx6, hx7⟩ := hSA
  have hSA := hS
  have hK := hA.w
  have hNN := hK.n
  have hMM := hK.m
  rcases hIm : aIm a with _ | v
  · rw [hIm] at hx6
    have hx6 : im = none := hx6
    subst hx6
    have hx0 : V 0 = some (x, oB 0 [.ref sa, .ref rf, .ref tr, .ref kl, .ref wa, .null, .int (zI (aFa a))]) := hx0
    refine lv_aload_n hx hb dX0_restore_0 rfl (lv_at hl 0 rfl) ?_
    refine g_get (ci := 0) hx hb hts in_X0 hown hG (hG.vo hx0) rfl 5 (Nat.le_of_ble_eq_true rfl) (hts _ q389) (fun _ h9 => h9) rfl dX0_restore_1 ?_
    refine lv_ifnullN (tgt := 11) hx hb dX0_restore_4 (by decide) ?_
    refine lv_iconst (v := zI 0) hx hb dX0_restore_11 (by decide +kernel) ?_
    refine lv_bipush (v := zI (-6)) hx hb dX0_restore_12 (by decide +kernel) ?_
    refine g_xv (vx_runS (As := [.int (zI 0), .int (zI (-6))]) (rest := []) ⟨hx, hb, hml, hown, hts⟩ (metX0_need_f (k := 6)) (va_cwS 2 hts (lw_S q520 q521 q87 q522) rfl rfl rfl (by decide +kernel) ⟨Nat.le_of_ble_eq_true rfl, Nat.le_of_ble_eq_true rfl⟩) (g_preS hG) rfl rfl hl.1 rfl (lv_room (Nat.le_of_ble_eq_true rfl)) dX0_restore_14 ⟨by show _ ≤ 8; omega, by show _ ≤ 400; omega⟩) hG (fun E9 ce9 q9 Fx_4 Vx_5 ws_ H locs hpx hG hce => ?_) (fun F_2 V_3 ws_ H locs hp hG => ?_)
    · obtain ⟨rfl, hle_Fx_4, hq9, rfl, rfl⟩ := hpx
      have hG : gW X Fx_4 V (Z) s H locs := hG
      refine g_catch (name := "LineRemarks$Refused") hown htab [] ⟨0, 46, 47, 21⟩ [] rfl (fun z9 hz9 => absurd hz9 List.not_mem_nil) (by decide) (by decide) (hts _ q410) (hG.1.2.1.1 _ qn498) hce ?_
      refine lv_astore_n (lv' := [(1, .ref q9), (0, .ref x)]) hx hb dX0_restore_47 rfl hl (by decide) rfl (fun ls hl => ?_)
      refine lv_aload_n hx hb dX0_restore_48 rfl (lv_at hl 1 rfl) ?_
      refine lv_aload_n hx hb dX0_restore_49 rfl (lv_at hl 0 rfl) ?_
      refine g_ci (va_runV (As := [.ref q9]) (rest := []) ⟨hx, hb, hml, hown, hts⟩ (metX0_refused (k := 6) (hS.mono hle_Fx_4) hA hq9 (by decide)) (cwV 1 hts (lw_V q589 q591 qs2 q87 q592) rfl rfl rfl (by decide +kernel) ⟨Nat.le_of_ble_eq_true rfl, Nat.le_of_ble_eq_true rfl⟩) (g_preV hG (g_recv hG (hG.vo hx0) (ci := 0) rfl)) rfl rfl hl.1 rfl (lv_room (Nat.le_of_ble_eq_true rfl)) dX0_restore_50 ⟨by show _ ≤ 8; omega, by show _ ≤ 400; omega⟩) hG (fun r_6 F_7 V_8 ws_ H locs hp hG => ?_)
      obtain ⟨rfl, rfl, hS9, rfl⟩ := hp
      have hG : gW X Fx_4 V_8 (Z) s H locs := hG
      refine vx_ret ?_
      exact g_iret hx hb hr hlocks hG (by have e9 : opRestore a = aNoR a 6 := (by unfold opRestore; rw [hIm]); rw [e9]; exact ⟨hle_Fx_4, rfl, hS9.ex, rfl⟩) ⟨by show _ ≤ 8; omega, by show _ ≤ 400; omega⟩ dX0_restore_53
    exact hp.elim
  · rw [hIm] at hx6
    obtain ⟨wi, rvi, rki, sti, rai, lai, mai, rfl, hWi⟩ := hx6
    have hKi := hA.1.2 v hIm
    have hx0 : V 0 = some (x, oB 0 [.ref sa, .ref rf, .ref tr, .ref kl, .ref wa, .ref wi, .int (zI (aFa a))]) := hx0
    refine lv_aload_n hx hb dX0_restore_0 rfl (lv_at hl 0 rfl) ?_
    refine g_get (ci := 0) hx hb hts in_X0 hown hG (hG.vo hx0) rfl 5 (Nat.le_of_ble_eq_true rfl) (hts _ q389) (fun _ h9 => h9) rfl dX0_restore_1 ?_
    refine lv_ifnull hx hb dX0_restore_4 ?_
    refine lv_iconst (v := zI 1) hx hb dX0_restore_7 (by decide +kernel) ?_
    refine lv_goto (tgt := 12) hx hb dX0_restore_8 (by decide) ?_
    refine lv_bipush (v := zI (-6)) hx hb dX0_restore_12 (by decide +kernel) ?_
    refine g_cv (va_runS (As := [.int (zI 1), .int (zI (-6))]) (rest := []) ⟨hx, hb, hml, hown, hts⟩ (metX0_need_t (b := 1) (by decide)) (va_cwS 2 hts (lw_S q520 q521 q87 q522) rfl rfl rfl (by decide +kernel) ⟨Nat.le_of_ble_eq_true rfl, Nat.le_of_ble_eq_true rfl⟩) (g_preS hG) rfl rfl hl.1 rfl (lv_room (Nat.le_of_ble_eq_true rfl)) dX0_restore_14 ⟨by show _ ≤ 8; omega, by show _ ≤ 400; omega⟩) hG (fun F_10 V_11 ws_ H locs hp hG => ?_)
    obtain ⟨rfl, rfl, rfl⟩ := hp
    have hG : gW X F V (Z) s H locs := hG
    refine lv_aload_n hx hb dX0_restore_17 rfl (lv_at hl 0 rfl) ?_
    refine g_new (ci := 2) hx hb hts in_X2 tyX2 tyX2_ok hown (hts _ q323) (hts _ q324) (hts _ q100) hG rfl (fs := [.int (zI 0), .int (zI 0), .int (zI 0), .int (zI 0), .int (zI 0), .int (zI 0), .null, .null, .null]) rfl ⟨by show _ ≤ 8; omega, by show _ ≤ 400; omega⟩ dX0_restore_18 (fun wa8 H (hG : gW X F V ((wa8, oB 2 [.int (zI 0), .int (zI 0), .int (zI 0), .int (zI 0), .int (zI 0), .int (zI 0), .null, .null, .null]) :: Z) s H _) => ?_)
    refine lv_dup hx hb dX0_restore_21 rfl ?_
    refine g_cv (va_runI (As := []) (rest := [.ref wa8, .ref x]) ⟨hx, hb, hml, hown, hts⟩ (metX2_init) (cwI 0 hts (lw_meth q327) rfl rfl rfl (hts _ q100) (hts _ q325) (hts _ q326) rfl (by decide +kernel) ⟨Nat.le_of_ble_eq_true rfl, Nat.le_of_ble_eq_true rfl⟩) (g_preS hG) rfl rfl hl.1 rfl (lv_room (Nat.le_of_ble_eq_true rfl)) dX0_restore_22 ⟨by show _ ≤ 8; omega, by show _ ≤ 400; omega⟩) hG (fun F_13 V_14 ws_ H locs hp hG => ?_)
    obtain ⟨rfl, rfl, rv8, rk8, st8, rfl⟩ := hp
    have hG : gW X F V ((wa8, oB 2 [.int (zI 0), .int (zI 0), .int (zI 2), .int (zI 6), .int (zI 1), .int (zI 1), .ref rv8, .ref rk8, .ref st8]) :: (rv8, aR (gT X 7) 16 (fun _ => none)) :: (rk8, aR (gT X 8) 16 (fun _ => none)) :: (st8, aI (gT X 5) 16 (fun _ => 0)) :: Z) s H locs := hG
    refine lv_aload_n hx hb dX0_restore_25 rfl (lv_at hl 0 rfl) ?_
    refine g_get (ci := 0) hx hb hts in_X0 hown hG (hG.vo hx0) rfl 5 (Nat.le_of_ble_eq_true rfl) (hts _ q389) (fun _ h9 => h9) rfl dX0_restore_26 ?_
    refine g_cr (va_runV (As := [.ref wi]) (rest := [.ref x]) ⟨hx, hb, hml, hown, hts⟩ (metX2_take (b := 8) hWi hKi) (cwV 1 hts (lw_V q3263 q3264 q3265 q100 q3266) rfl rfl rfl (by decide +kernel) ⟨Nat.le_of_ble_eq_true rfl, Nat.le_of_ble_eq_true rfl⟩) (g_preV hG (g_recv hG (hG.at 0 rfl) (ci := 2) rfl)) rfl rfl hl.1 rfl (lv_room (Nat.le_of_ble_eq_true rfl)) dX0_restore_29 ⟨by show _ ≤ 8; omega, by show _ ≤ 400; omega⟩) hG (fun r_15 F_16 V_17 ws_ H locs hp hG => ?_)
    obtain ⟨hu, rfl, rfl, f9, g9, h9, hf9, hg9, hh9, rfl⟩ := hp
    obtain rfl : wa8 = r_15 := hu.symm
    have hG : gW X F V ((wa8, oB 2 [.int (zI (wN v : Int)), .int (zI (wM v : Int)), .int (zI (wRun v : Int)), .int (zI (wNeed v : Int)), .int (zI (wMar v : Int)), .int (wSeed v), .ref rv8, .ref rk8, .ref st8]) :: (rv8, aR (gT X 7) 16 f9) :: (rk8, aR (gT X 8) 16 g9) :: (st8, aI (gT X 5) 16 h9) :: Z) s H locs := hG
    have hG := hG.toV 4
    have hx0 : (va_up V 4 (some (wa8, oB 2 [.int (zI (wN v : Int)), .int (zI (wM v : Int)), .int (zI (wRun v : Int)), .int (zI (wNeed v : Int)), .int (zI (wMar v : Int)), .int (wSeed v), .ref rv8, .ref rk8, .ref st8]))) 0 = some (x, oB 0 [.ref sa, .ref rf, .ref tr, .ref kl, .ref wa, .ref wi, .int (zI (aFa a))]) := (vun (by decide)).trans hx0
    have hx2 : (va_up V 4 (some (wa8, oB 2 [.int (zI (wN v : Int)), .int (zI (wM v : Int)), .int (zI (wRun v : Int)), .int (zI (wNeed v : Int)), .int (zI (wMar v : Int)), .int (wSeed v), .ref rv8, .ref rk8, .ref st8]))) 1 = some (rf, aI (gT X 0) 8 gr9) := (vun (by decide)).trans hx2
    have hi0 : (va_up V 4 (some (wa8, oB 2 [.int (zI (wN v : Int)), .int (zI (wM v : Int)), .int (zI (wRun v : Int)), .int (zI (wNeed v : Int)), .int (zI (wMar v : Int)), .int (wSeed v), .ref rv8, .ref rk8, .ref st8]))) 4 = some (wa8, oB 2 [.int (zI (wN v : Int)), .int (zI (wM v : Int)), .int (zI (wRun v : Int)), .int (zI (wNeed v : Int)), .int (zI (wMar v : Int)), .int (wSeed v), .ref rv8, .ref rk8, .ref st8]) := vus
    have hG : gW X F (va_up V 4 (some (wa8, oB 2 [.int (zI (wN v : Int)), .int (zI (wM v : Int)), .int (zI (wRun v : Int)), .int (zI (wNeed v : Int)), .int (zI (wMar v : Int)), .int (wSeed v), .ref rv8, .ref rk8, .ref st8]))) ((rv8, aR (gT X 7) 16 f9) :: (rk8, aR (gT X 8) 16 g9) :: (st8, aI (gT X 5) 16 h9) :: Z) s _ _ := hG
    have hG := hG.toV 5
    have hx0 : (va_up (va_up V 4 (some (wa8, oB 2 [.int (zI (wN v : Int)), .int (zI (wM v : Int)), .int (zI (wRun v : Int)), .int (zI (wNeed v : Int)), .int (zI (wMar v : Int)), .int (wSeed v), .ref rv8, .ref rk8, .ref st8]))) 5 (some (rv8, aR (gT X 7) 16 f9))) 0 = some (x, oB 0 [.ref sa, .ref rf, .ref tr, .ref kl, .ref wa, .ref wi, .int (zI (aFa a))]) := (vun (by decide)).trans hx0
    have hx2 : (va_up (va_up V 4 (some (wa8, oB 2 [.int (zI (wN v : Int)), .int (zI (wM v : Int)), .int (zI (wRun v : Int)), .int (zI (wNeed v : Int)), .int (zI (wMar v : Int)), .int (wSeed v), .ref rv8, .ref rk8, .ref st8]))) 5 (some (rv8, aR (gT X 7) 16 f9))) 1 = some (rf, aI (gT X 0) 8 gr9) := (vun (by decide)).trans hx2
    have hi0 : (va_up (va_up V 4 (some (wa8, oB 2 [.int (zI (wN v : Int)), .int (zI (wM v : Int)), .int (zI (wRun v : Int)), .int (zI (wNeed v : Int)), .int (zI (wMar v : Int)), .int (wSeed v), .ref rv8, .ref rk8, .ref st8]))) 5 (some (rv8, aR (gT X 7) 16 f9))) 4 = some (wa8, oB 2 [.int (zI (wN v : Int)), .int (zI (wM v : Int)), .int (zI (wRun v : Int)), .int (zI (wNeed v : Int)), .int (zI (wMar v : Int)), .int (wSeed v), .ref rv8, .ref rk8, .ref st8]) := (vun (by decide)).trans hi0
    have hi1 : (va_up (va_up V 4 (some (wa8, oB 2 [.int (zI (wN v : Int)), .int (zI (wM v : Int)), .int (zI (wRun v : Int)), .int (zI (wNeed v : Int)), .int (zI (wMar v : Int)), .int (wSeed v), .ref rv8, .ref rk8, .ref st8]))) 5 (some (rv8, aR (gT X 7) 16 f9))) 5 = some (rv8, aR (gT X 7) 16 f9) := vus
    have hG : gW X F (va_up (va_up V 4 (some (wa8, oB 2 [.int (zI (wN v : Int)), .int (zI (wM v : Int)), .int (zI (wRun v : Int)), .int (zI (wNeed v : Int)), .int (zI (wMar v : Int)), .int (wSeed v), .ref rv8, .ref rk8, .ref st8]))) 5 (some (rv8, aR (gT X 7) 16 f9))) ((rk8, aR (gT X 8) 16 g9) :: (st8, aI (gT X 5) 16 h9) :: Z) s _ _ := hG
    have hG := hG.toV 6
    have hx0 : (va_up (va_up (va_up V 4 (some (wa8, oB 2 [.int (zI (wN v : Int)), .int (zI (wM v : Int)), .int (zI (wRun v : Int)), .int (zI (wNeed v : Int)), .int (zI (wMar v : Int)), .int (wSeed v), .ref rv8, .ref rk8, .ref st8]))) 5 (some (rv8, aR (gT X 7) 16 f9))) 6 (some (rk8, aR (gT X 8) 16 g9))) 0 = some (x, oB 0 [.ref sa, .ref rf, .ref tr, .ref kl, .ref wa, .ref wi, .int (zI (aFa a))]) := (vun (by decide)).trans hx0
    have hx2 : (va_up (va_up (va_up V 4 (some (wa8, oB 2 [.int (zI (wN v : Int)), .int (zI (wM v : Int)), .int (zI (wRun v : Int)), .int (zI (wNeed v : Int)), .int (zI (wMar v : Int)), .int (wSeed v), .ref rv8, .ref rk8, .ref st8]))) 5 (some (rv8, aR (gT X 7) 16 f9))) 6 (some (rk8, aR (gT X 8) 16 g9))) 1 = some (rf, aI (gT X 0) 8 gr9) := (vun (by decide)).trans hx2
    have hi0 : (va_up (va_up (va_up V 4 (some (wa8, oB 2 [.int (zI (wN v : Int)), .int (zI (wM v : Int)), .int (zI (wRun v : Int)), .int (zI (wNeed v : Int)), .int (zI (wMar v : Int)), .int (wSeed v), .ref rv8, .ref rk8, .ref st8]))) 5 (some (rv8, aR (gT X 7) 16 f9))) 6 (some (rk8, aR (gT X 8) 16 g9))) 4 = some (wa8, oB 2 [.int (zI (wN v : Int)), .int (zI (wM v : Int)), .int (zI (wRun v : Int)), .int (zI (wNeed v : Int)), .int (zI (wMar v : Int)), .int (wSeed v), .ref rv8, .ref rk8, .ref st8]) := (vun (by decide)).trans hi0
    have hi1 : (va_up (va_up (va_up V 4 (some (wa8, oB 2 [.int (zI (wN v : Int)), .int (zI (wM v : Int)), .int (zI (wRun v : Int)), .int (zI (wNeed v : Int)), .int (zI (wMar v : Int)), .int (wSeed v), .ref rv8, .ref rk8, .ref st8]))) 5 (some (rv8, aR (gT X 7) 16 f9))) 6 (some (rk8, aR (gT X 8) 16 g9))) 5 = some (rv8, aR (gT X 7) 16 f9) := (vun (by decide)).trans hi1
    have hi2 : (va_up (va_up (va_up V 4 (some (wa8, oB 2 [.int (zI (wN v : Int)), .int (zI (wM v : Int)), .int (zI (wRun v : Int)), .int (zI (wNeed v : Int)), .int (zI (wMar v : Int)), .int (wSeed v), .ref rv8, .ref rk8, .ref st8]))) 5 (some (rv8, aR (gT X 7) 16 f9))) 6 (some (rk8, aR (gT X 8) 16 g9))) 6 = some (rk8, aR (gT X 8) 16 g9) := vus
    have hG : gW X F (va_up (va_up (va_up V 4 (some (wa8, oB 2 [.int (zI (wN v : Int)), .int (zI (wM v : Int)), .int (zI (wRun v : Int)), .int (zI (wNeed v : Int)), .int (zI (wMar v : Int)), .int (wSeed v), .ref rv8, .ref rk8, .ref st8]))) 5 (some (rv8, aR (gT X 7) 16 f9))) 6 (some (rk8, aR (gT X 8) 16 g9))) ((st8, aI (gT X 5) 16 h9) :: Z) s _ _ := hG
    have hG := hG.toV 7
    have hx0 : (va_up (va_up (va_up (va_up V 4 (some (wa8, oB 2 [.int (zI (wN v : Int)), .int (zI (wM v : Int)), .int (zI (wRun v : Int)), .int (zI (wNeed v : Int)), .int (zI (wMar v : Int)), .int (wSeed v), .ref rv8, .ref rk8, .ref st8]))) 5 (some (rv8, aR (gT X 7) 16 f9))) 6 (some (rk8, aR (gT X 8) 16 g9))) 7 (some (st8, aI (gT X 5) 16 h9))) 0 = some (x, oB 0 [.ref sa, .ref rf, .ref tr, .ref kl, .ref wa, .ref wi, .int (zI (aFa a))]) := (vun (by decide)).trans hx0
    have hx2 : (va_up (va_up (va_up (va_up V 4 (some (wa8, oB 2 [.int (zI (wN v : Int)), .int (zI (wM v : Int)), .int (zI (wRun v : Int)), .int (zI (wNeed v : Int)), .int (zI (wMar v : Int)), .int (wSeed v), .ref rv8, .ref rk8, .ref st8]))) 5 (some (rv8, aR (gT X 7) 16 f9))) 6 (some (rk8, aR (gT X 8) 16 g9))) 7 (some (st8, aI (gT X 5) 16 h9))) 1 = some (rf, aI (gT X 0) 8 gr9) := (vun (by decide)).trans hx2
    have hi0 : (va_up (va_up (va_up (va_up V 4 (some (wa8, oB 2 [.int (zI (wN v : Int)), .int (zI (wM v : Int)), .int (zI (wRun v : Int)), .int (zI (wNeed v : Int)), .int (zI (wMar v : Int)), .int (wSeed v), .ref rv8, .ref rk8, .ref st8]))) 5 (some (rv8, aR (gT X 7) 16 f9))) 6 (some (rk8, aR (gT X 8) 16 g9))) 7 (some (st8, aI (gT X 5) 16 h9))) 4 = some (wa8, oB 2 [.int (zI (wN v : Int)), .int (zI (wM v : Int)), .int (zI (wRun v : Int)), .int (zI (wNeed v : Int)), .int (zI (wMar v : Int)), .int (wSeed v), .ref rv8, .ref rk8, .ref st8]) := (vun (by decide)).trans hi0
    have hi1 : (va_up (va_up (va_up (va_up V 4 (some (wa8, oB 2 [.int (zI (wN v : Int)), .int (zI (wM v : Int)), .int (zI (wRun v : Int)), .int (zI (wNeed v : Int)), .int (zI (wMar v : Int)), .int (wSeed v), .ref rv8, .ref rk8, .ref st8]))) 5 (some (rv8, aR (gT X 7) 16 f9))) 6 (some (rk8, aR (gT X 8) 16 g9))) 7 (some (st8, aI (gT X 5) 16 h9))) 5 = some (rv8, aR (gT X 7) 16 f9) := (vun (by decide)).trans hi1
    have hi2 : (va_up (va_up (va_up (va_up V 4 (some (wa8, oB 2 [.int (zI (wN v : Int)), .int (zI (wM v : Int)), .int (zI (wRun v : Int)), .int (zI (wNeed v : Int)), .int (zI (wMar v : Int)), .int (wSeed v), .ref rv8, .ref rk8, .ref st8]))) 5 (some (rv8, aR (gT X 7) 16 f9))) 6 (some (rk8, aR (gT X 8) 16 g9))) 7 (some (st8, aI (gT X 5) 16 h9))) 6 = some (rk8, aR (gT X 8) 16 g9) := (vun (by decide)).trans hi2
    have hi3 : (va_up (va_up (va_up (va_up V 4 (some (wa8, oB 2 [.int (zI (wN v : Int)), .int (zI (wM v : Int)), .int (zI (wRun v : Int)), .int (zI (wNeed v : Int)), .int (zI (wMar v : Int)), .int (wSeed v), .ref rv8, .ref rk8, .ref st8]))) 5 (some (rv8, aR (gT X 7) 16 f9))) 6 (some (rk8, aR (gT X 8) 16 g9))) 7 (some (st8, aI (gT X 5) 16 h9))) 7 = some (st8, aI (gT X 5) 16 h9) := vus
    have hG : gW X F (va_up (va_up (va_up (va_up V 4 (some (wa8, oB 2 [.int (zI (wN v : Int)), .int (zI (wM v : Int)), .int (zI (wRun v : Int)), .int (zI (wNeed v : Int)), .int (zI (wMar v : Int)), .int (wSeed v), .ref rv8, .ref rk8, .ref st8]))) 5 (some (rv8, aR (gT X 7) 16 f9))) 6 (some (rk8, aR (gT X 8) 16 g9))) 7 (some (st8, aI (gT X 5) 16 h9))) (Z) s _ _ := hG
    refine g_putV (ci := 0) hx hb hts in_X0 tyX0 tyX0_ok nmX0 hown hG hx0 rfl 4 (Nat.le_of_ble_eq_true rfl) (hts _ q388) (fun _ h9 => h9) rfl (tyX0_ok 4 (Nat.le_of_ble_eq_true rfl)) rfl rfl (Nat.le_of_ble_eq_true rfl) dX0_restore_32 (fun H locs (hG : gW X F (va_up (va_up (va_up (va_up (va_up V 4 (some (wa8, oB 2 [.int (zI (wN v : Int)), .int (zI (wM v : Int)), .int (zI (wRun v : Int)), .int (zI (wNeed v : Int)), .int (zI (wMar v : Int)), .int (wSeed v), .ref rv8, .ref rk8, .ref st8]))) 5 (some (rv8, aR (gT X 7) 16 f9))) 6 (some (rk8, aR (gT X 8) 16 g9))) 7 (some (st8, aI (gT X 5) 16 h9))) 0 (some (x, oB 0 [.ref sa, .ref rf, .ref tr, .ref kl, .ref wa8, .ref wi, .int (zI (aFa a))]))) (Z) s H locs) => ?_)
    have hx0 : (va_up (va_up (va_up (va_up (va_up V 4 (some (wa8, oB 2 [.int (zI (wN v : Int)), .int (zI (wM v : Int)), .int (zI (wRun v : Int)), .int (zI (wNeed v : Int)), .int (zI (wMar v : Int)), .int (wSeed v), .ref rv8, .ref rk8, .ref st8]))) 5 (some (rv8, aR (gT X 7) 16 f9))) 6 (some (rk8, aR (gT X 8) 16 g9))) 7 (some (st8, aI (gT X 5) 16 h9))) 0 (some (x, oB 0 [.ref sa, .ref rf, .ref tr, .ref kl, .ref wa8, .ref wi, .int (zI (aFa a))]))) 0 = some (x, oB 0 [.ref sa, .ref rf, .ref tr, .ref kl, .ref wa8, .ref wi, .int (zI (aFa a))]) := vus
    have hx2 : (va_up (va_up (va_up (va_up (va_up V 4 (some (wa8, oB 2 [.int (zI (wN v : Int)), .int (zI (wM v : Int)), .int (zI (wRun v : Int)), .int (zI (wNeed v : Int)), .int (zI (wMar v : Int)), .int (wSeed v), .ref rv8, .ref rk8, .ref st8]))) 5 (some (rv8, aR (gT X 7) 16 f9))) 6 (some (rk8, aR (gT X 8) 16 g9))) 7 (some (st8, aI (gT X 5) 16 h9))) 0 (some (x, oB 0 [.ref sa, .ref rf, .ref tr, .ref kl, .ref wa8, .ref wi, .int (zI (aFa a))]))) 1 = some (rf, aI (gT X 0) 8 gr9) := (vun (by decide)).trans hx2
    have hi0 : (va_up (va_up (va_up (va_up (va_up V 4 (some (wa8, oB 2 [.int (zI (wN v : Int)), .int (zI (wM v : Int)), .int (zI (wRun v : Int)), .int (zI (wNeed v : Int)), .int (zI (wMar v : Int)), .int (wSeed v), .ref rv8, .ref rk8, .ref st8]))) 5 (some (rv8, aR (gT X 7) 16 f9))) 6 (some (rk8, aR (gT X 8) 16 g9))) 7 (some (st8, aI (gT X 5) 16 h9))) 0 (some (x, oB 0 [.ref sa, .ref rf, .ref tr, .ref kl, .ref wa8, .ref wi, .int (zI (aFa a))]))) 4 = some (wa8, oB 2 [.int (zI (wN v : Int)), .int (zI (wM v : Int)), .int (zI (wRun v : Int)), .int (zI (wNeed v : Int)), .int (zI (wMar v : Int)), .int (wSeed v), .ref rv8, .ref rk8, .ref st8]) := (vun (by decide)).trans hi0
    have hi1 : (va_up (va_up (va_up (va_up (va_up V 4 (some (wa8, oB 2 [.int (zI (wN v : Int)), .int (zI (wM v : Int)), .int (zI (wRun v : Int)), .int (zI (wNeed v : Int)), .int (zI (wMar v : Int)), .int (wSeed v), .ref rv8, .ref rk8, .ref st8]))) 5 (some (rv8, aR (gT X 7) 16 f9))) 6 (some (rk8, aR (gT X 8) 16 g9))) 7 (some (st8, aI (gT X 5) 16 h9))) 0 (some (x, oB 0 [.ref sa, .ref rf, .ref tr, .ref kl, .ref wa8, .ref wi, .int (zI (aFa a))]))) 5 = some (rv8, aR (gT X 7) 16 f9) := (vun (by decide)).trans hi1
    have hi2 : (va_up (va_up (va_up (va_up (va_up V 4 (some (wa8, oB 2 [.int (zI (wN v : Int)), .int (zI (wM v : Int)), .int (zI (wRun v : Int)), .int (zI (wNeed v : Int)), .int (zI (wMar v : Int)), .int (wSeed v), .ref rv8, .ref rk8, .ref st8]))) 5 (some (rv8, aR (gT X 7) 16 f9))) 6 (some (rk8, aR (gT X 8) 16 g9))) 7 (some (st8, aI (gT X 5) 16 h9))) 0 (some (x, oB 0 [.ref sa, .ref rf, .ref tr, .ref kl, .ref wa8, .ref wi, .int (zI (aFa a))]))) 6 = some (rk8, aR (gT X 8) 16 g9) := (vun (by decide)).trans hi2
    have hi3 : (va_up (va_up (va_up (va_up (va_up V 4 (some (wa8, oB 2 [.int (zI (wN v : Int)), .int (zI (wM v : Int)), .int (zI (wRun v : Int)), .int (zI (wNeed v : Int)), .int (zI (wMar v : Int)), .int (wSeed v), .ref rv8, .ref rk8, .ref st8]))) 5 (some (rv8, aR (gT X 7) 16 f9))) 6 (some (rk8, aR (gT X 8) 16 g9))) 7 (some (st8, aI (gT X 5) 16 h9))) 0 (some (x, oB 0 [.ref sa, .ref rf, .ref tr, .ref kl, .ref wa8, .ref wi, .int (zI (aFa a))]))) 7 = some (st8, aI (gT X 5) 16 h9) := (vun (by decide)).trans hi3
    refine lv_aload_n hx hb dX0_restore_35 rfl (lv_at hl 0 rfl) ?_
    have hW8 : xWd X F (va_up (va_up (va_up (va_up (va_up V 4 (some (wa8, oB 2 [.int (zI (wN v : Int)), .int (zI (wM v : Int)), .int (zI (wRun v : Int)), .int (zI (wNeed v : Int)), .int (zI (wMar v : Int)), .int (wSeed v), .ref rv8, .ref rk8, .ref st8]))) 5 (some (rv8, aR (gT X 7) 16 f9))) 6 (some (rk8, aR (gT X 8) 16 g9))) 7 (some (st8, aI (gT X 5) 16 h9))) 0 (some (x, oB 0 [.ref sa, .ref rf, .ref tr, .ref kl, .ref wa8, .ref wi, .int (zI (aFa a))]))) 4 v wa8 rv8 rk8 st8 rai lai mai := ⟨hi0, ⟨f9, hi1, hf9⟩, ⟨g9, hi2, hg9⟩, ⟨h9, hi3, hh9⟩, hWi.2.2.2.2.1, hWi.2.2.2.2.2⟩
    have hsv8 : ∀ i, i < 8 → xSh X F (va_up (va_up (va_up (va_up (va_up V 4 (some (wa8, oB 2 [.int (zI (wN v : Int)), .int (zI (wM v : Int)), .int (zI (wRun v : Int)), .int (zI (wNeed v : Int)), .int (zI (wMar v : Int)), .int (wSeed v), .ref rv8, .ref rk8, .ref st8]))) 5 (some (rv8, aR (gT X 7) 16 f9))) 6 (some (rk8, aR (gT X 8) 16 g9))) 7 (some (st8, aI (gT X 5) 16 h9))) 0 (some (x, oB 0 [.ref sa, .ref rf, .ref tr, .ref kl, .ref wa8, .ref wi, .int (zI (aFa a))]))) ma i (sh i) (aSv a i) := fun i hi => (hx7 i hi).cg ⟨by repeat (first | rfl | refine (va_up_ne _ _ (by omega)).trans ?_), by repeat (first | rfl | refine (va_up_ne _ _ (by omega)).trans ?_)⟩
    refine g_cv (va_runV (As := []) (rest := []) ⟨hx, hb, hml, hown, hts⟩ (metX0_shelvesFollow (w := aWd a) (im := some wi) hx0 hx1 hsh hW8 hKi hK hW.2.2.2.2.2 hsv8 hA.2.1) (cwV 0 hts (lw_V q3272 q3274 qs40 q87 q3275) rfl rfl rfl (by decide +kernel) ⟨Nat.le_of_ble_eq_true rfl, Nat.le_of_ble_eq_true rfl⟩) (g_preV hG (g_recv hG (hG.vo hx0) (ci := 0) rfl)) rfl rfl hl.1 rfl (lv_room (Nat.le_of_ble_eq_true rfl)) dX0_restore_36 ⟨by show _ ≤ 8; omega, by show _ ≤ 400; omega⟩) hG (fun F_19 V_20 ws_ H locs hp hG => ?_)
    obtain ⟨rfl, hU9, hs9, rfl⟩ := hp
    have hG : gW X F V_20 (Z) s H locs := hG
    have hz0 : V_20 0 = some (x, oB 0 [.ref sa, .ref rf, .ref tr, .ref kl, .ref wa8, .ref wi, .int (zI (aFa a))]) := (hU9 0 (by omega)).trans hx0
    have hz4 : V_20 4 = some (wa8, oB 2 [.int (zI (wN v : Int)), .int (zI (wM v : Int)), .int (zI (wRun v : Int)), .int (zI (wNeed v : Int)), .int (zI (wMar v : Int)), .int (wSeed v), .ref rv8, .ref rk8, .ref st8]) := (hU9 4 (by omega)).trans hi0
    refine lv_aload_n hx hb dX0_restore_39 rfl (lv_at hl 0 rfl) ?_
    refine g_get (ci := 0) hx hb hts in_X0 hown hG (hG.vo hz0) rfl 4 (Nat.le_of_ble_eq_true rfl) (hts _ q388) (fun _ h9 => h9) rfl dX0_restore_40 ?_
    refine g_get (ci := 2) hx hb hts in_X2 hown hG (hG.vo hz4) rfl 1 (Nat.le_of_ble_eq_true rfl) (hts _ q336) (fun _ h9 => h9) rfl dX0_restore_43 ?_
    refine vx_ret ?_
    exact g_iret hx hb hr hlocks hG (by have e9 : opRestore a = (((wM v : Nat) : Int), aShR a v 8) := (by unfold opRestore; rw [hIm]); rw [e9]; exact ⟨(gLe.rfl (V := V)), rfl, ((hS.setR (fun r9 h8 h9 h7 => (hU9 r9 h7).trans (by repeat (first | rfl | refine (va_up_ne _ _ (by omega)).trans ?_))) hz0 (hW8.cg (fun r9 h8 h9 => hU9 r9 (by omega))) hs9)).ex, rfl⟩) ⟨by show _ ≤ 8; omega, by show _ ≤ 400; omega⟩ dX0_restore_46

