set_option maxRecDepth 100000
theorem opJudge_s {a : aS} {v1 r1 y1 n so n9 : Nat} {f9 : Nat → Int64} (hsv : aSv a v1 = some (.inr (so, n9, f9))) (hb9 : beh (wFo (aWd a)) y1 (rOn (wRk (aWd a) r1)) = some n) (hv : v1 ≤ 7) (hr : r1 < wM (aWd a)) (hy : y1 < wN (aWd a)) : opJudge a (v1 : Int) (r1 : Int) (y1 : Int) = if n9 ≤ n then aNoT a 5 else (oI (fsB (jdP (aWd a) f9 r1 y1 n) (n + 1) 0), a) := by
  unfold opJudge
  rw [if_neg (by omega), show aSv a ((v1 : Nat) : Int).toNat = some (.inr (so, n9, f9)) from hsv]
  show (match beh (wFo (aWd a)) y1 (rOn (wRk (aWd a) r1)) with | none => aNoT a 6 | some n => if n9 ≤ n then aNoT a 5 else (oI (fsB (jdP (aWd a) f9 r1 y1 n) (n + 1) 0), a)) = _
  rw [hb9]
set_option maxHeartbeats 4000000 in
theorem metX0_judge {l : Launch} {X : gX} {F : gF} {V : gV} {Z : va_W} {x sa rf tr tb kl wa rv rk st : Nat} {sh ra la ma : Nat → Nat} {im : Option Nat} {a : aS} (hS : xS X F V x a sa rf tr tb kl wa rv rk st sh ra la ma im) (hA : aOK a) (hst : l.stackTraces = false) {v r y : Int} (hrv : (-2147483648 ≤ v ∧ v < 2147483648)) (hrr : (-2147483648 ≤ r ∧ r < 2147483648)) (hry : (-2147483648 ≤ y ∧ y < 2147483648)) : vx_Met l yX0_judge (wsW_ yX0_judge cX0_judge 13 (some FieldType.int) [(0, 205, 214, 21), (206, 213, 214, 21)]) ({ frames := 9, cells := 620, slots := 14200, locals := 10278 }) (gP X F V (Z) [.ref x, .int (zI v), .int (zI r), .int (zI y)]) (gQi X (fun u G U ws => gLe F G ∧ u = zI (opJudge a v r y).1 ∧ xX X G U x (opJudge a v r y).2 ∧ Z = ws)) (gXc X (fun _ _ _ _ _ => False)) 620 14200 (gA X) := by
  refine vx_Met.gH (by decide) (Nat.le_of_ble_eq_true rfl) ?_
  intro p e s m below meth c ls hx hb hr hts hown hlocks hml hin htab hG hl
  have hl : lv_has ls 13 [(0, .ref x), (1, .int (zI v)), (2, .int (zI r)), (3, .int (zI y))] := hl
  have hSA := hS
  obtain ⟨hx0, ⟨fs9, hx1, hsh⟩, ⟨gr9, hx2, hgr⟩, hx3, hx4, hW, hx6, hx7⟩ := hSA
  have hSA := hS
  have hK := hA.w
  have hNN := hK.n
  have hMM := hK.m
  obtain ⟨hw0, ⟨fR, hw1, hwR⟩, ⟨fM, hw2, hwM⟩, ⟨fS, hw3, hwS⟩, hR, hMk⟩ := id hW
  have hw0 : V 4 = some (wa, oB 2 [.int (zI (wN (aWd a) : Int)), .int (zI (wM (aWd a) : Int)), .int (zI (wRun (aWd a) : Int)), .int (zI (wNeed (aWd a) : Int)), .int (zI (wMar (aWd a) : Int)), .int (wSeed (aWd a)), .ref rv, .ref rk, .ref st]) := hw0
  have hw1 : V 5 = some (rv, aR (gT X 7) 16 fR) := hw1
  have hw2 : V 6 = some (rk, aR (gT X 8) 16 fM) := hw2
  have hw3 : V 7 = some (st, aI (gT X 5) 16 fS) := hw3
  refine lv_aload_n hx hb dX0_judge_0 rfl (lv_at hl 0 rfl) ?_
  refine lv_iload_n hx hb dX0_judge_1 rfl (lv_at hl 1 rfl) ?_
  by_cases hv7 : 0 ≤ v ∧ v ≤ 7
  · obtain ⟨v1, rfl⟩ : ∃ z : Nat, v = (z : Int) := ⟨v.toNat, by omega⟩
    refine g_xr (vx_runVX (As := [.int (zI (v1 : Int))]) (rest := []) ⟨hx, hb, hml, hown, hts⟩ (metX0_shelf_t (v := v1) hS hA (by omega)) (vx_cwVW 1 hts (lw_VW q411 q413 qs0 q87 q414) rfl rfl rfl (by decide +kernel) ⟨Nat.le_of_ble_eq_true rfl, Nat.le_of_ble_eq_true rfl⟩) (g_preV hG (g_recv hG (hG.vo hx0) (ci := 0) rfl)) rfl rfl hl.1 rfl (lv_room (Nat.le_of_ble_eq_true rfl)) dX0_judge_2 ⟨by show _ ≤ 620; omega, by show _ ≤ 14200; omega⟩) hG (fun E9 ce9 q9 Fx_4 Vx_5 ws_ H locs hpx hG hce => ?_) (fun r_1 F_2 V_3 ws_ H locs hp hG => ?_)
    · exact hpx.elim
    obtain ⟨rfl, rfl, rfl, rfl⟩ := hp
    have hG : gW X F V (Z) s H locs := hG
    refine lv_astore (lv' := [(4, .ref (sh v1)), (0, .ref x), (1, .int (zI (v1 : Int))), (2, .int (zI r)), (3, .int (zI y))]) hx hb dX0_judge_5 hl (by decide) rfl (fun ls hl => ?_)
    refine lv_aload_n hx hb dX0_judge_7 rfl (lv_at hl 1 rfl) ?_
    refine lv_iload_n hx hb dX0_judge_8 rfl (lv_at hl 3 rfl) ?_
    by_cases hcr : 0 ≤ r ∧ r < wM (aWd a)
    · obtain ⟨r1, rfl⟩ : ∃ z : Nat, r = (z : Int) := ⟨r.toNat, by omega⟩
      refine g_cr (va_runV (As := [.int (zI (r1 : Int))]) (rest := []) ⟨hx, hb, hml, hown, hts⟩ (metX0_told_t (r := r1) hS hA (by omega)) (cwV 1 hts (lw_V q700 q702 qs3 q87 q703) rfl rfl rfl (by decide +kernel) ⟨Nat.le_of_ble_eq_true rfl, Nat.le_of_ble_eq_true rfl⟩) (g_preV hG (g_recv hG (hG.vo hx0) (ci := 0) rfl)) rfl rfl hl.1 rfl (lv_room (Nat.le_of_ble_eq_true rfl)) dX0_judge_9 ⟨by show _ ≤ 620; omega, by show _ ≤ 14200; omega⟩) hG (fun r_6 F_7 V_8 ws_ H locs hp hG => ?_)
      obtain ⟨rfl, rfl, rfl, rfl⟩ := hp
      have hG : gW X F V (Z) s H locs := hG
      have hrkr1 := hK.rk (m := r1) (by omega)
      have hrmr1 := hMk r1 (by omega)
      have hkdr1 := hrkr1.1
      refine lv_astore (lv' := [(5, .ref (ma r1)), (4, .ref (sh v1)), (0, .ref x), (1, .int (zI (v1 : Int))), (2, .int (zI (r1 : Int))), (3, .int (zI y))]) hx hb dX0_judge_12 hl (by decide) rfl (fun ls hl => ?_)
      refine lv_aload_n hx hb dX0_judge_14 rfl (lv_at hl 2 rfl) ?_
      refine lv_iload_n hx hb dX0_judge_15 rfl (lv_at hl 5 rfl) ?_
      by_cases hcy : 0 ≤ y ∧ y < wN (aWd a)
      · obtain ⟨y1, rfl⟩ : ∃ z : Nat, y = (z : Int) := ⟨y.toNat, by omega⟩
        refine g_cr (va_runV (As := [.int (zI (y1 : Int))]) (rest := []) ⟨hx, hb, hml, hown, hts⟩ (metX0_revision_t (r := y1) hS hA (by omega)) (cwV 1 hts (lw_V q737 q739 qs4 q87 q740) rfl rfl rfl (by decide +kernel) ⟨Nat.le_of_ble_eq_true rfl, Nat.le_of_ble_eq_true rfl⟩) (g_preV hG (g_recv hG (hG.vo hx0) (ci := 0) rfl)) rfl rfl hl.1 rfl (lv_room (Nat.le_of_ble_eq_true rfl)) dX0_judge_16 ⟨by show _ ≤ 620; omega, by show _ ≤ 14200; omega⟩) hG (fun r_9 F_10 V_11 ws_ H locs hp hG => ?_)
        obtain ⟨rfl, rfl, rfl, rfl⟩ := hp
        have hG : gW X F V (Z) s H locs := hG
        have hlny1 : aLn a ((y1 : Nat) : Int) = ((wTx (aWd a) y1).length : Nat) := rfl
        have h24y1 := (hK.tx (r := y1) (by omega)).1
        have hx7v := hx7 v1 (by omega)
        have hok7 := hA.2.1 v1
        have hMk7 := hW.2.2.2.2.2
        rcases hsvv : aSv a v1 with _ | m1 | ⟨so1, n9, f9⟩
        · rw [hsvv] at hx7v
          have hsv : V (20 + v1) = some (sh v1, oB 3 [.null]) := hx7v
          refine lv_astore (lv' := [(6, .ref (ra y1)), (5, .ref (ma r1)), (4, .ref (sh v1)), (0, .ref x), (1, .int (zI (v1 : Int))), (2, .int (zI (r1 : Int))), (3, .int (zI (y1 : Int)))]) hx hb dX0_judge_19 hl (by decide) rfl (fun ls hl => ?_)
          refine lv_aload hx hb dX0_judge_21 (lv_at hl 2 rfl) ?_
          refine g_xr (vx_runVX (As := []) (rest := []) ⟨hx, hb, hml, hown, hts⟩ (metX3_row_n (rj := 20 + v1) hsv) (vx_cwVW 0 hts (lw_VW q597 q598 q599 q101 q600) rfl rfl rfl (by decide +kernel) ⟨Nat.le_of_ble_eq_true rfl, Nat.le_of_ble_eq_true rfl⟩) (g_preV hG (g_recv hG (hG.vo hsv) (ci := 3) rfl)) rfl rfl hl.1 rfl (lv_room (Nat.le_of_ble_eq_true rfl)) dX0_judge_23 ⟨by show _ ≤ 620; omega, by show _ ≤ 14200; omega⟩) hG (fun E9 ce9 q9 Fx_15 Vx_16 ws_ H locs hpx hG hce => ?_) (fun r_12 F_13 V_14 ws_ H locs hp hG => ?_)
          · obtain ⟨rfl, hle_Fx_15, hq9, rfl, rfl⟩ := hpx
            have hG : gW X Fx_15 V (Z) s H locs := hG
            refine g_catch (name := "LineRemarks$Refused") hown htab [] ⟨0, 205, 214, 21⟩ [⟨206, 213, 214, 21⟩] rfl (fun z9 hz9 => absurd hz9 List.not_mem_nil) (by decide) (by decide) (hts _ q410) (hG.1.2.1.1 _ qn498) hce ?_
            refine lv_astore (lv' := [(4, .ref q9), (6, .ref (ra y1)), (5, .ref (ma r1)), (0, .ref x), (1, .int (zI (v1 : Int))), (2, .int (zI (r1 : Int))), (3, .int (zI (y1 : Int)))]) hx hb dX0_judge_214 hl (by decide) rfl (fun ls hl => ?_)
            refine lv_aload_n hx hb dX0_judge_216 rfl (lv_at hl 3 rfl) ?_
            refine lv_aload hx hb dX0_judge_217 (lv_at hl 0 rfl) ?_
            refine g_ci (va_runV (As := [.ref q9]) (rest := []) ⟨hx, hb, hml, hown, hts⟩ (metX0_refused (k := 3) (hS.mono hle_Fx_15) hA hq9 (by decide)) (cwV 1 hts (lw_V q589 q591 qs2 q87 q592) rfl rfl rfl (by decide +kernel) ⟨Nat.le_of_ble_eq_true rfl, Nat.le_of_ble_eq_true rfl⟩) (g_preV hG (g_recv hG (hG.vo hx0) (ci := 0) rfl)) rfl rfl hl.1 rfl (lv_room (Nat.le_of_ble_eq_true rfl)) dX0_judge_219 ⟨by show _ ≤ 620; omega, by show _ ≤ 14200; omega⟩) hG (fun r_17 F_18 V_19 ws_ H locs hp hG => ?_)
            obtain ⟨rfl, rfl, hS9, rfl⟩ := hp
            have hG : gW X Fx_15 V_19 (Z) s H locs := hG
            refine lv_bipush (v := zI 10) hx hb dX0_judge_222 (by decide +kernel) ?_
            refine g_isub hx hb dX0_judge_224 ?_
            refine vx_ret ?_
            exact g_iret hx hb hr hlocks hG (by have e9 : opJudge a (v1 : Int) (r1 : Int) (y1 : Int) = aNoT a 3 := (by unfold opJudge; rw [if_neg (by omega), show aSv a ((v1 : Nat) : Int).toNat = none from hsvv]; first | done | rfl); rw [e9]; exact ⟨hle_Fx_15, rfl, hS9.ex, rfl⟩) ⟨by show _ ≤ 620; omega, by show _ ≤ 14200; omega⟩ dX0_judge_225
          exact hp.elim
        · rw [hsvv] at hx7v hok7
          have hm1 : m1 < wM (aWd a) := hok7
          have hsv : V (20 + v1) = some (sh v1, oB 3 [.ref (ma m1)]) := hx7v
          have hrm1 := hMk7 m1 hm1
          have hkd1 := (hK.rk hm1).1
          refine lv_astore (lv' := [(6, .ref (ra y1)), (5, .ref (ma r1)), (4, .ref (sh v1)), (0, .ref x), (1, .int (zI (v1 : Int))), (2, .int (zI (r1 : Int))), (3, .int (zI (y1 : Int)))]) hx hb dX0_judge_19 hl (by decide) rfl (fun ls hl => ?_)
          refine lv_aload hx hb dX0_judge_21 (lv_at hl 2 rfl) ?_
          refine g_xr (vx_runVX (As := []) (rest := []) ⟨hx, hb, hml, hown, hts⟩ (metX3_row_f (rj := 20 + v1) hsv (rm_ncR hkd1 hrm1) hst) (vx_cwVW 0 hts (lw_VW q597 q598 q599 q101 q600) rfl rfl rfl (by decide +kernel) ⟨Nat.le_of_ble_eq_true rfl, Nat.le_of_ble_eq_true rfl⟩) (g_preV hG (g_recv hG (hG.vo hsv) (ci := 3) rfl)) rfl rfl hl.1 rfl (lv_room (Nat.le_of_ble_eq_true rfl)) dX0_judge_23 ⟨by show _ ≤ 620; omega, by show _ ≤ 14200; omega⟩) hG (fun E9 ce9 q9 Fx_23 Vx_24 ws_ H locs hpx hG hce => ?_) (fun r_20 F_21 V_22 ws_ H locs hp hG => ?_)
          · obtain ⟨rfl, hle_Fx_23, hq9, rfl, rfl⟩ := hpx
            have hG : gW X Fx_23 V (Z) s H locs := hG
            refine g_catch (name := "LineRemarks$Refused") hown htab [] ⟨0, 205, 214, 21⟩ [⟨206, 213, 214, 21⟩] rfl (fun z9 hz9 => absurd hz9 List.not_mem_nil) (by decide) (by decide) (hts _ q410) (hG.1.2.1.1 _ qn498) hce ?_
            refine lv_astore (lv' := [(4, .ref q9), (6, .ref (ra y1)), (5, .ref (ma r1)), (0, .ref x), (1, .int (zI (v1 : Int))), (2, .int (zI (r1 : Int))), (3, .int (zI (y1 : Int)))]) hx hb dX0_judge_214 hl (by decide) rfl (fun ls hl => ?_)
            refine lv_aload_n hx hb dX0_judge_216 rfl (lv_at hl 3 rfl) ?_
            refine lv_aload hx hb dX0_judge_217 (lv_at hl 0 rfl) ?_
            refine g_ci (va_runV (As := [.ref q9]) (rest := []) ⟨hx, hb, hml, hown, hts⟩ (metX0_refused (k := 2) (hS.mono hle_Fx_23) hA hq9 (by decide)) (cwV 1 hts (lw_V q589 q591 qs2 q87 q592) rfl rfl rfl (by decide +kernel) ⟨Nat.le_of_ble_eq_true rfl, Nat.le_of_ble_eq_true rfl⟩) (g_preV hG (g_recv hG (hG.vo hx0) (ci := 0) rfl)) rfl rfl hl.1 rfl (lv_room (Nat.le_of_ble_eq_true rfl)) dX0_judge_219 ⟨by show _ ≤ 620; omega, by show _ ≤ 14200; omega⟩) hG (fun r_25 F_26 V_27 ws_ H locs hp hG => ?_)
            obtain ⟨rfl, rfl, hS9, rfl⟩ := hp
            have hG : gW X Fx_23 V_27 (Z) s H locs := hG
            refine lv_bipush (v := zI 10) hx hb dX0_judge_222 (by decide +kernel) ?_
            refine g_isub hx hb dX0_judge_224 ?_
            refine vx_ret ?_
            exact g_iret hx hb hr hlocks hG (by have e9 : opJudge a (v1 : Int) (r1 : Int) (y1 : Int) = aNoT a 2 := (by unfold opJudge; rw [if_neg (by omega), show aSv a ((v1 : Nat) : Int).toNat = some (.inl m1) from hsvv]; first | done | rfl); rw [e9]; exact ⟨hle_Fx_23, rfl, hS9.ex, rfl⟩) ⟨by show _ ≤ 620; omega, by show _ ≤ 14200; omega⟩ dX0_judge_225
          exact hp.elim
        · rw [hsvv] at hx7v hok7
          obtain ⟨ro, ar, hsv, hro, hVr, hfx⟩ := hx7v
          obtain ⟨hso, hn160⟩ : so1 ≤ 3 ∧ n9 ≤ 160 := hok7
          refine lv_astore (lv' := [(6, .ref (ra y1)), (5, .ref (ma r1)), (4, .ref (sh v1)), (0, .ref x), (1, .int (zI (v1 : Int))), (2, .int (zI (r1 : Int))), (3, .int (zI (y1 : Int)))]) hx hb dX0_judge_19 hl (by decide) rfl (fun ls hl => ?_)
          refine lv_aload hx hb dX0_judge_21 (lv_at hl 2 rfl) ?_
          refine g_xr (vx_runVX (As := []) (rest := []) ⟨hx, hb, hml, hown, hts⟩ (metX3_row_t (rj := 20 + v1) hsv hso hro) (vx_cwVW 0 hts (lw_VW q597 q598 q599 q101 q600) rfl rfl rfl (by decide +kernel) ⟨Nat.le_of_ble_eq_true rfl, Nat.le_of_ble_eq_true rfl⟩) (g_preV hG (g_recv hG (hG.vo hsv) (ci := 3) rfl)) rfl rfl hl.1 rfl (lv_room (Nat.le_of_ble_eq_true rfl)) dX0_judge_23 ⟨by show _ ≤ 620; omega, by show _ ≤ 14200; omega⟩) hG (fun E9 ce9 q9 Fx_31 Vx_32 ws_ H locs hpx hG hce => ?_) (fun r_28 F_29 V_30 ws_ H locs hp hG => ?_)
          · exact hpx.elim
          obtain ⟨rfl, rfl, rfl, rfl⟩ := hp
          have hG : gW X F V (Z) s H locs := hG
          refine lv_astore (lv' := [(7, .ref ro), (6, .ref (ra y1)), (5, .ref (ma r1)), (4, .ref (sh v1)), (0, .ref x), (1, .int (zI (v1 : Int))), (2, .int (zI (r1 : Int))), (3, .int (zI (y1 : Int)))]) hx hb dX0_judge_26 hl (by decide) rfl (fun ls hl => ?_)
          refine lv_aload hx hb dX0_judge_28 (lv_at hl 1 rfl) ?_
          refine lv_aload hx hb dX0_judge_30 (lv_at hl 2 rfl) ?_
          refine g_rmget hx hb hkdr1 hts hown hG (hG.fz hrmr1) 2 (by decide) (hts _ q2084) rfl dX0_judge_32 ?_
          refine g_ci (va_runV (As := [.ref (ra (rOn (wRk (aWd a) r1)))]) (rest := []) ⟨hx, hb, hml, hown, hts⟩ (metX14_isBehind hR hK (by omega) hrkr1.2.2.1) (cwV 1 hts (lw_V q1952 q1953 q1954 q140 q1955) rfl rfl rfl (by decide +kernel) ⟨Nat.le_of_ble_eq_true rfl, Nat.le_of_ble_eq_true rfl⟩) (g_preV hG (rev_recv hG (hR y1 (by omega)).1)) rfl rfl hl.1 rfl (lv_room (Nat.le_of_ble_eq_true rfl)) dX0_judge_35 ⟨by show _ ≤ 620; omega, by show _ ≤ 14200; omega⟩) hG (fun r_33 F_34 V_35 ws_ H locs hp hG => ?_)
          obtain ⟨rfl, rfl, rfl, rfl⟩ := hp
          have hG : gW X F V (Z) s H locs := hG
          rcases hb9 : beh (wFo (aWd a)) y1 (rOn (wRk (aWd a) r1)) with _ | n
          · refine g_topz (y := 0) (by first | rfl | (rw [hb9]; rfl)) ?_
            refine g_eq (tgt := 54) hx hb dX0_judge_38 (by decide) (by decide) (fun hq => ?_) (fun hq => ?_)
            · refine g_new (ci := 30) hx hb hts in_J36 tyJ36 tyJ36_ok hown (hts _ q3115) (hts _ q1961) (hts _ q139) hG rfl (fs := [.null, .int (zI 0), .int (zI 0)]) rfl ⟨by show _ ≤ 620; omega, by show _ ≤ 14200; omega⟩ dX0_judge_54 (fun dq H (hG : gW X F V ((dq, oB 30 [.null, .int (zI 0), .int (zI 0)]) :: Z) s H _) => ?_)
              refine lv_dup hx hb dX0_judge_57 rfl ?_
              refine g_cv (va_runI (As := []) (rest := [.ref dq]) ⟨hx, hb, hml, hown, hts⟩ (metJ36_init) (cwI 0 hts (lw_meth q1964) rfl rfl rfl (hts _ q139) (hts _ q3116) (hts _ q1963) rfl (by decide +kernel) ⟨Nat.le_of_ble_eq_true rfl, Nat.le_of_ble_eq_true rfl⟩) (g_preS hG) rfl rfl hl.1 rfl (lv_room (Nat.le_of_ble_eq_true rfl)) dX0_judge_58 ⟨by show _ ≤ 620; omega, by show _ ≤ 14200; omega⟩) hG (fun F_37 V_38 ws_ H locs hp hG => ?_)
              obtain ⟨rfl, rfl, es, rfl⟩ := hp
              have hG : gW X F V ((es, aR (gT X 10) 17 (fun _ => none)) :: (dq, oB 30 [.ref es, .int (zI 0), .int (zI 0)]) :: Z) s H locs := hG
              refine lv_astore (lv' := [(8, .ref dq), (7, .ref ro), (6, .ref (ra y1)), (5, .ref (ma r1)), (4, .ref (sh v1)), (0, .ref x), (1, .int (zI (v1 : Int))), (2, .int (zI (r1 : Int))), (3, .int (zI (y1 : Int)))]) hx hb dX0_judge_61 hl (by decide) rfl (fun ls hl => ?_)
              refine lv_aload hx hb dX0_judge_63 (lv_at hl 0 rfl) ?_
              have hG : gW X F V ((dq, oB 30 [.ref es, .int (zI 0), .int (zI 0)]) :: (es, aR (gT X 10) 17 (fun _ => none)) :: Z) s _ _ := hG.pull 1 rfl rfl
              refine g_ci (va_runV (As := []) (rest := []) ⟨hx, hb, hml, hown, hts⟩ (metJ36_size (h := 0) (t := 0) (L := []) dqR.nil) (cwV 0 hts (lw_V q3117 q2009 q2010 q139 q2011) rfl rfl rfl (by decide +kernel) ⟨Nat.le_of_ble_eq_true rfl, Nat.le_of_ble_eq_true rfl⟩) (g_preV hG (g_recv hG (hG.at 0 rfl) (ci := 30) rfl)) rfl rfl hl.1 rfl (lv_room (Nat.le_of_ble_eq_true rfl)) dX0_judge_65 ⟨by show _ ≤ 620; omega, by show _ ≤ 14200; omega⟩) hG (fun r_39 F_40 V_41 ws_ H locs hp hG => ?_)
              obtain ⟨rfl, rfl, rfl, rfl⟩ := hp
              have hG : gW X F V ((dq, oB 30 [.ref es, .int (zI 0), .int (zI 0)]) :: (es, aR (gT X 10) 17 (fun _ => none)) :: Z) s H locs := hG
              refine g_topz (y := 0) rfl ?_
              refine lv_aload hx hb dX0_judge_68 (lv_at hl 1 rfl) ?_
              refine g_ci (run_row_length hso hro hVr ⟨hx, hb, hml, hown, hts⟩ q3118 hG ⟨Nat.le_of_ble_eq_true rfl, Nat.le_of_ble_eq_true rfl⟩ hl.1 (lv_room (Nat.le_of_ble_eq_true rfl)) dX0_judge_70 ⟨by show _ ≤ 620; omega, by show _ ≤ 14200; omega⟩) hG (fun r_42 F_43 V_44 ws_ H locs hp hG => ?_)
              obtain ⟨rfl, rfl, rfl, rfl⟩ := hp
              have hG : gW X F V ((dq, oB 30 [.ref es, .int (zI 0), .int (zI 0)]) :: (es, aR (gT X 10) 17 (fun _ => none)) :: Z) s H locs := hG
              refine g_cgt (tgt := 80) hx hb dX0_judge_73 (by decide) (by omega) (fun h6 => ?_) (fun h6 => ?_)
              · exfalso; omega
              · refine lv_iconst (v := zI 1) hx hb dX0_judge_76 (by decide +kernel) ?_
                refine lv_goto (tgt := 81) hx hb dX0_judge_77 (by decide) ?_
                refine lv_bipush (v := zI (-5)) hx hb dX0_judge_81 (by decide +kernel) ?_
                refine g_cv (va_runS (As := [.int (zI 1), .int (zI (-5))]) (rest := []) ⟨hx, hb, hml, hown, hts⟩ (metX0_need_t (b := 1) (by decide)) (va_cwS 2 hts (lw_S q520 q521 q87 q522) rfl rfl rfl (by decide +kernel) ⟨Nat.le_of_ble_eq_true rfl, Nat.le_of_ble_eq_true rfl⟩) (g_preS hG) rfl rfl hl.1 rfl (lv_room (Nat.le_of_ble_eq_true rfl)) dX0_judge_83 ⟨by show _ ≤ 620; omega, by show _ ≤ 14200; omega⟩) hG (fun F_46 V_47 ws_ H locs hp hG => ?_)
                obtain ⟨rfl, rfl, rfl⟩ := hp
                have hG : gW X F V ((dq, oB 30 [.ref es, .int (zI 0), .int (zI 0)]) :: (es, aR (gT X 10) 17 (fun _ => none)) :: Z) s H locs := hG
                refine lv_aload hx hb dX0_judge_86 (lv_at hl 0 rfl) ?_
                refine g_ci (va_runV (As := []) (rest := []) ⟨hx, hb, hml, hown, hts⟩ (metJ36_isEmpty (h := 0) (t := 0) (L := []) dqR.nil) (cwV 0 hts (lw_V q3119 q2243 q2244 q139 q2245) rfl rfl rfl (by decide +kernel) ⟨Nat.le_of_ble_eq_true rfl, Nat.le_of_ble_eq_true rfl⟩) (g_preV hG (g_recv hG (hG.at 0 rfl) (ci := 30) rfl)) rfl rfl hl.1 rfl (lv_room (Nat.le_of_ble_eq_true rfl)) dX0_judge_88 ⟨by show _ ≤ 620; omega, by show _ ≤ 14200; omega⟩) hG (fun r_48 F_49 V_50 ws_ H locs hp hG => ?_)
                obtain ⟨rfl, rfl, rfl, rfl⟩ := hp
                have hG : gW X F V ((dq, oB 30 [.ref es, .int (zI 0), .int (zI 0)]) :: (es, aR (gT X 10) 17 (fun _ => none)) :: Z) s H locs := hG
                refine g_topz (y := 1) rfl ?_
                refine g_ne (tgt := 98) hx hb dX0_judge_91 (by decide) (by decide) (fun hq => ?_) (fun hq => ?_)
                · refine lv_iconst (v := zI 0) hx hb dX0_judge_98 (by decide +kernel) ?_
                  refine lv_bipush (v := zI (-6)) hx hb dX0_judge_99 (by decide +kernel) ?_
                  have hG : gW X F V ((es, aR (gT X 10) 17 (fun _ => none)) :: Z) s _ _ := hG.drop 0 rfl rfl
                  have hG : gW X F V (Z) s _ _ := hG.drop 0 rfl rfl
                  refine g_xv (vx_runS (As := [.int (zI 0), .int (zI (-6))]) (rest := []) ⟨hx, hb, hml, hown, hts⟩ (metX0_need_f (k := 6)) (va_cwS 2 hts (lw_S q520 q521 q87 q522) rfl rfl rfl (by decide +kernel) ⟨Nat.le_of_ble_eq_true rfl, Nat.le_of_ble_eq_true rfl⟩) (g_preS hG) rfl rfl hl.1 rfl (lv_room (Nat.le_of_ble_eq_true rfl)) dX0_judge_101 ⟨by show _ ≤ 620; omega, by show _ ≤ 14200; omega⟩) hG (fun E9 ce9 q9 Fx_54 Vx_55 ws_ H locs hpx hG hce => ?_) (fun F_52 V_53 ws_ H locs hp hG => ?_)
                  · obtain ⟨rfl, hle_Fx_54, hq9, rfl, rfl⟩ := hpx
                    have hG : gW X Fx_54 V (Z) s H locs := hG
                    refine g_catch (name := "LineRemarks$Refused") hown htab [] ⟨0, 205, 214, 21⟩ [⟨206, 213, 214, 21⟩] rfl (fun z9 hz9 => absurd hz9 List.not_mem_nil) (by decide) (by decide) (hts _ q410) (hG.1.2.1.1 _ qn498) hce ?_
                    refine lv_astore (lv' := [(4, .ref q9), (8, .ref dq), (7, .ref ro), (6, .ref (ra y1)), (5, .ref (ma r1)), (0, .ref x), (1, .int (zI (v1 : Int))), (2, .int (zI (r1 : Int))), (3, .int (zI (y1 : Int)))]) hx hb dX0_judge_214 hl (by decide) rfl (fun ls hl => ?_)
                    refine lv_aload_n hx hb dX0_judge_216 rfl (lv_at hl 5 rfl) ?_
                    refine lv_aload hx hb dX0_judge_217 (lv_at hl 0 rfl) ?_
                    refine g_ci (va_runV (As := [.ref q9]) (rest := []) ⟨hx, hb, hml, hown, hts⟩ (metX0_refused (k := 6) (hS.mono hle_Fx_54) hA hq9 (by decide)) (cwV 1 hts (lw_V q589 q591 qs2 q87 q592) rfl rfl rfl (by decide +kernel) ⟨Nat.le_of_ble_eq_true rfl, Nat.le_of_ble_eq_true rfl⟩) (g_preV hG (g_recv hG (hG.vo hx0) (ci := 0) rfl)) rfl rfl hl.1 rfl (lv_room (Nat.le_of_ble_eq_true rfl)) dX0_judge_219 ⟨by show _ ≤ 620; omega, by show _ ≤ 14200; omega⟩) hG (fun r_56 F_57 V_58 ws_ H locs hp hG => ?_)
                    obtain ⟨rfl, rfl, hS9, rfl⟩ := hp
                    have hG : gW X Fx_54 V_58 (Z) s H locs := hG
                    refine lv_bipush (v := zI 10) hx hb dX0_judge_222 (by decide +kernel) ?_
                    refine g_isub hx hb dX0_judge_224 ?_
                    refine vx_ret ?_
                    exact g_iret hx hb hr hlocks hG (by have e9 : opJudge a (v1 : Int) (r1 : Int) (y1 : Int) = aNoT a 6 := (by unfold opJudge; rw [if_neg (by omega), show aSv a ((v1 : Nat) : Int).toNat = some (.inr (so1, n9, f9)) from hsvv]; first | done | (show (match beh (wFo (aWd a)) y1 (rOn (wRk (aWd a) r1)) with | none => aNoT a 6 | some n => if n9 ≤ n then aNoT a 5 else (oI (fsB (jdP (aWd a) f9 r1 y1 n) (n + 1) 0), a)) = _; rw [hb9])); rw [e9]; exact ⟨hle_Fx_54, rfl, hS9.ex, rfl⟩) ⟨by show _ ≤ 620; omega, by show _ ≤ 14200; omega⟩ dX0_judge_225
                  exact hp.elim
                · exfalso; omega
            · exfalso; omega
          · refine g_topz (y := 1) (by first | rfl | (rw [hb9]; rfl)) ?_
            obtain ⟨hle, hfo, hend⟩ := beh_anc hK.fo n y1 _ hb9
            have hn16 := hle n (Nat.le_refl n)
            have hro9 : rBy (wRk (aWd a) r1) ≤ 9 ∧ rOn (wRk (aWd a) r1) < wN (aWd a) ∧ rP (wRk (aWd a) r1) ≤ rQ (wRk (aWd a) r1) ∧ rQ (wRk (aWd a) r1) < (wTx (aWd a) (rOn (wRk (aWd a) r1))).length := ⟨hrkr1.2.1, hrkr1.2.2.1, hrkr1.2.2.2.1, hrkr1.2.2.2.2.1⟩
            refine g_eq (tgt := 54) hx hb dX0_judge_38 (by decide) (by decide) (fun hq => ?_) (fun hq => ?_)
            · exfalso; omega
            · refine lv_aload hx hb dX0_judge_41 (lv_at hl 1 rfl) ?_
              refine lv_aload hx hb dX0_judge_43 (lv_at hl 2 rfl) ?_
              refine g_rmget hx hb hkdr1 hts hown hG (hG.fz hrmr1) 2 (by decide) (hts _ q2084) rfl dX0_judge_45 ?_
              refine g_cr (va_runV (As := [.ref (ra (rOn (wRk (aWd a) r1)))]) (rest := []) ⟨hx, hb, hml, hown, hts⟩ (metX14_since hR hK (by omega) hrkr1.2.2.1 hb9) (cwV 1 hts (lw_V q1956 q1957 q1958 q140 q1959) rfl rfl rfl (by decide +kernel) ⟨Nat.le_of_ble_eq_true rfl, Nat.le_of_ble_eq_true rfl⟩) (g_preV hG (rev_recv hG (hR y1 (by omega)).1)) rfl rfl hl.1 rfl (lv_room (Nat.le_of_ble_eq_true rfl)) dX0_judge_48 ⟨by show _ ≤ 620; omega, by show _ ≤ 14200; omega⟩) hG (fun dq F_59 V_60 ws_ H locs hp hG => ?_)
              obtain ⟨rfl, rfl, es, hq0, fq, hdq, rfl⟩ := hp
              have hG : gW X F V ((dq, oB 30 [.ref es, .int (zI (hq0 : Int)), .int (zI 0)]) :: (es, aR (gT X 10) 17 fq) :: Z) s H locs := hG
              obtain ⟨L, hL⟩ : ∃ L, L = sncL (wFo (aWd a)) ra y1 (n + 1) := ⟨_, rfl⟩
              rw [← hL] at hdq
              have hlen : L.length = n + 1 := by rw [hL]; exact sncL_len _ _ _ _
              refine lv_goto (tgt := 61) hx hb dX0_judge_51 (by decide) ?_
              refine lv_astore (lv' := [(8, .ref dq), (7, .ref ro), (6, .ref (ra y1)), (5, .ref (ma r1)), (4, .ref (sh v1)), (0, .ref x), (1, .int (zI (v1 : Int))), (2, .int (zI (r1 : Int))), (3, .int (zI (y1 : Int)))]) hx hb dX0_judge_61 hl (by decide) rfl (fun ls hl => ?_)
              refine lv_aload hx hb dX0_judge_63 (lv_at hl 0 rfl) ?_
              refine g_ci (va_runV (As := []) (rest := []) ⟨hx, hb, hml, hown, hts⟩ (metJ36_size hdq) (cwV 0 hts (lw_V q3117 q2009 q2010 q139 q2011) rfl rfl rfl (by decide +kernel) ⟨Nat.le_of_ble_eq_true rfl, Nat.le_of_ble_eq_true rfl⟩) (g_preV hG (g_recv hG (hG.at 0 rfl) (ci := 30) rfl)) rfl rfl hl.1 rfl (lv_room (Nat.le_of_ble_eq_true rfl)) dX0_judge_65 ⟨by show _ ≤ 620; omega, by show _ ≤ 14200; omega⟩) hG (fun r_61 F_62 V_63 ws_ H locs hp hG => ?_)
              obtain ⟨rfl, rfl, rfl, rfl⟩ := hp
              have hG : gW X F V ((dq, oB 30 [.ref es, .int (zI (hq0 : Int)), .int (zI 0)]) :: (es, aR (gT X 10) 17 fq) :: Z) s H locs := hG
              refine lv_aload hx hb dX0_judge_68 (lv_at hl 1 rfl) ?_
              refine g_ci (run_row_length hso hro hVr ⟨hx, hb, hml, hown, hts⟩ q3118 hG ⟨Nat.le_of_ble_eq_true rfl, Nat.le_of_ble_eq_true rfl⟩ hl.1 (lv_room (Nat.le_of_ble_eq_true rfl)) dX0_judge_70 ⟨by show _ ≤ 620; omega, by show _ ≤ 14200; omega⟩) hG (fun r_64 F_65 V_66 ws_ H locs hp hG => ?_)
              obtain ⟨rfl, rfl, rfl, rfl⟩ := hp
              have hG : gW X F V ((dq, oB 30 [.ref es, .int (zI (hq0 : Int)), .int (zI 0)]) :: (es, aR (gT X 10) 17 fq) :: Z) s H locs := hG
              refine g_cgt (tgt := 80) hx hb dX0_judge_73 (by decide) (by omega) (fun h6 => ?_) (fun h6 => ?_)
              · refine lv_iconst (v := zI 0) hx hb dX0_judge_80 (by decide +kernel) ?_
                refine lv_bipush (v := zI (-5)) hx hb dX0_judge_81 (by decide +kernel) ?_
                have hbig : n9 ≤ n := by omega
                refine g_xv (vx_runS (As := [.int (zI 0), .int (zI (-5))]) (rest := []) ⟨hx, hb, hml, hown, hts⟩ (metX0_need_f (k := 5)) (va_cwS 2 hts (lw_S q520 q521 q87 q522) rfl rfl rfl (by decide +kernel) ⟨Nat.le_of_ble_eq_true rfl, Nat.le_of_ble_eq_true rfl⟩) (g_preS hG) rfl rfl hl.1 rfl (lv_room (Nat.le_of_ble_eq_true rfl)) dX0_judge_83 ⟨by show _ ≤ 620; omega, by show _ ≤ 14200; omega⟩) hG (fun E9 ce9 q9 Fx_70 Vx_71 ws_ H locs hpx hG hce => ?_) (fun F_68 V_69 ws_ H locs hp hG => ?_)
                · obtain ⟨rfl, hle_Fx_70, hq9, rfl, rfl⟩ := hpx
                  have hG : gW X Fx_70 V ((dq, oB 30 [.ref es, .int (zI (hq0 : Int)), .int (zI 0)]) :: (es, aR (gT X 10) 17 fq) :: Z) s H locs := hG
                  have hG : gW X Fx_70 V ((es, aR (gT X 10) 17 fq) :: Z) s _ _ := hG.drop 0 rfl rfl
                  have hG : gW X Fx_70 V (Z) s _ _ := hG.drop 0 rfl rfl
                  refine g_catch (name := "LineRemarks$Refused") hown htab [] ⟨0, 205, 214, 21⟩ [⟨206, 213, 214, 21⟩] rfl (fun z9 hz9 => absurd hz9 List.not_mem_nil) (by decide) (by decide) (hts _ q410) (hG.1.2.1.1 _ qn498) hce ?_
                  refine lv_astore (lv' := [(4, .ref q9), (8, .ref dq), (7, .ref ro), (6, .ref (ra y1)), (5, .ref (ma r1)), (0, .ref x), (1, .int (zI (v1 : Int))), (2, .int (zI (r1 : Int))), (3, .int (zI (y1 : Int)))]) hx hb dX0_judge_214 hl (by decide) rfl (fun ls hl => ?_)
                  refine lv_aload_n hx hb dX0_judge_216 rfl (lv_at hl 5 rfl) ?_
                  refine lv_aload hx hb dX0_judge_217 (lv_at hl 0 rfl) ?_
                  refine g_ci (va_runV (As := [.ref q9]) (rest := []) ⟨hx, hb, hml, hown, hts⟩ (metX0_refused (k := 5) (hS.mono hle_Fx_70) hA hq9 (by decide)) (cwV 1 hts (lw_V q589 q591 qs2 q87 q592) rfl rfl rfl (by decide +kernel) ⟨Nat.le_of_ble_eq_true rfl, Nat.le_of_ble_eq_true rfl⟩) (g_preV hG (g_recv hG (hG.vo hx0) (ci := 0) rfl)) rfl rfl hl.1 rfl (lv_room (Nat.le_of_ble_eq_true rfl)) dX0_judge_219 ⟨by show _ ≤ 620; omega, by show _ ≤ 14200; omega⟩) hG (fun r_72 F_73 V_74 ws_ H locs hp hG => ?_)
                  obtain ⟨rfl, rfl, hS9, rfl⟩ := hp
                  have hG : gW X Fx_70 V_74 (Z) s H locs := hG
                  refine lv_bipush (v := zI 10) hx hb dX0_judge_222 (by decide +kernel) ?_
                  refine g_isub hx hb dX0_judge_224 ?_
                  refine vx_ret ?_
                  exact g_iret hx hb hr hlocks hG (by have e9 : opJudge a (v1 : Int) (r1 : Int) (y1 : Int) = aNoT a 5 := (by rw [opJudge_s hsvv hb9 (by omega) (by omega) (by omega), if_pos hbig]); rw [e9]; exact ⟨hle_Fx_70, rfl, hS9.ex, rfl⟩) ⟨by show _ ≤ 620; omega, by show _ ≤ 14200; omega⟩ dX0_judge_225
                exact hp.elim
              · have hnb : ¬ n9 ≤ n := by omega
                refine lv_iconst (v := zI 1) hx hb dX0_judge_76 (by decide +kernel) ?_
                refine lv_goto (tgt := 81) hx hb dX0_judge_77 (by decide) ?_
                refine lv_bipush (v := zI (-5)) hx hb dX0_judge_81 (by decide +kernel) ?_
                refine g_cv (va_runS (As := [.int (zI 1), .int (zI (-5))]) (rest := []) ⟨hx, hb, hml, hown, hts⟩ (metX0_need_t (b := 1) (by decide)) (va_cwS 2 hts (lw_S q520 q521 q87 q522) rfl rfl rfl (by decide +kernel) ⟨Nat.le_of_ble_eq_true rfl, Nat.le_of_ble_eq_true rfl⟩) (g_preS hG) rfl rfl hl.1 rfl (lv_room (Nat.le_of_ble_eq_true rfl)) dX0_judge_83 ⟨by show _ ≤ 620; omega, by show _ ≤ 14200; omega⟩) hG (fun F_76 V_77 ws_ H locs hp hG => ?_)
                obtain ⟨rfl, rfl, rfl⟩ := hp
                have hG : gW X F V ((dq, oB 30 [.ref es, .int (zI (hq0 : Int)), .int (zI 0)]) :: (es, aR (gT X 10) 17 fq) :: Z) s H locs := hG
                refine lv_aload hx hb dX0_judge_86 (lv_at hl 0 rfl) ?_
                refine g_ci (va_runV (As := []) (rest := []) ⟨hx, hb, hml, hown, hts⟩ (metJ36_isEmpty hdq) (cwV 0 hts (lw_V q3119 q2243 q2244 q139 q2245) rfl rfl rfl (by decide +kernel) ⟨Nat.le_of_ble_eq_true rfl, Nat.le_of_ble_eq_true rfl⟩) (g_preV hG (g_recv hG (hG.at 0 rfl) (ci := 30) rfl)) rfl rfl hl.1 rfl (lv_room (Nat.le_of_ble_eq_true rfl)) dX0_judge_88 ⟨by show _ ≤ 620; omega, by show _ ≤ 14200; omega⟩) hG (fun r_78 F_79 V_80 ws_ H locs hp hG => ?_)
                obtain ⟨rfl, rfl, rfl, rfl⟩ := hp
                have hG : gW X F V ((dq, oB 30 [.ref es, .int (zI (hq0 : Int)), .int (zI 0)]) :: (es, aR (gT X 10) 17 fq) :: Z) s H locs := hG
                refine g_topz (y := 0) (by rw [decide_eq_false (by omega)]; rfl) ?_
                refine g_ne (tgt := 98) hx hb dX0_judge_91 (by decide) (by decide) (fun hq => ?_) (fun hq => ?_)
                · exfalso; omega
                · refine lv_iconst (v := zI 1) hx hb dX0_judge_94 (by decide +kernel) ?_
                  refine lv_goto (tgt := 99) hx hb dX0_judge_95 (by decide) ?_
                  refine lv_bipush (v := zI (-6)) hx hb dX0_judge_99 (by decide +kernel) ?_
                  refine g_cv (va_runS (As := [.int (zI 1), .int (zI (-6))]) (rest := []) ⟨hx, hb, hml, hown, hts⟩ (metX0_need_t (b := 1) (by decide)) (va_cwS 2 hts (lw_S q520 q521 q87 q522) rfl rfl rfl (by decide +kernel) ⟨Nat.le_of_ble_eq_true rfl, Nat.le_of_ble_eq_true rfl⟩) (g_preS hG) rfl rfl hl.1 rfl (lv_room (Nat.le_of_ble_eq_true rfl)) dX0_judge_101 ⟨by show _ ≤ 620; omega, by show _ ≤ 14200; omega⟩) hG (fun F_82 V_83 ws_ H locs hp hG => ?_)
                  obtain ⟨rfl, rfl, rfl⟩ := hp
                  have hG : gW X F V ((dq, oB 30 [.ref es, .int (zI (hq0 : Int)), .int (zI 0)]) :: (es, aR (gT X 10) 17 fq) :: Z) s H locs := hG
                  refine g_new (ci := 21) hx hb hts in_X23 tyX23 tyX23_ok hown (hts _ q2280) (hts _ q2281) (hts _ q152) hG rfl (fs := [.null, .null, .null, .null, .null, .int (zI 0)]) rfl ⟨by show _ ≤ 620; omega, by show _ ≤ 14200; omega⟩ dX0_judge_104 (fun wk H (hG : gW X F V ((wk, oB 21 [.null, .null, .null, .null, .null, .int (zI 0)]) :: (dq, oB 30 [.ref es, .int (zI (hq0 : Int)), .int (zI 0)]) :: (es, aR (gT X 10) 17 fq) :: Z) s H _) => ?_)
                  refine lv_dup hx hb dX0_judge_107 rfl ?_
                  refine lv_aload_n hx hb dX0_judge_108 rfl (lv_at hl 5 rfl) ?_
                  refine g_get (ci := 0) hx hb hts in_X0 hown hG (hG.vo hx0) rfl 4 (Nat.le_of_ble_eq_true rfl) (hts _ q388) (fun _ h9 => h9) rfl dX0_judge_109 ?_
                  refine g_cv (va_runI (As := [.ref wa]) (rest := [.ref wk]) ⟨hx, hb, hml, hown, hts⟩ (metX23_init) (cwI 1 hts (lw_meth q2284) rfl rfl rfl (hts _ q152) (hts _ q2282) (hts _ q2283) rfl (by decide +kernel) ⟨Nat.le_of_ble_eq_true rfl, Nat.le_of_ble_eq_true rfl⟩) (g_preS hG) rfl rfl hl.1 rfl (lv_room (Nat.le_of_ble_eq_true rfl)) dX0_judge_112 ⟨by show _ ≤ 620; omega, by show _ ≤ 14200; omega⟩) hG (fun F_85 V_86 ws_ H locs hp hG => ?_)
                  obtain ⟨rfl, rfl, sp, cx, cl, rfl⟩ := hp
                  have hG : gW X F V ((wk, oB 21 [.ref sp, .ref cx, .ref wa, .null, .null, .int (zI 0)]) :: (sp, oB 22 [.int (zI 0), .int (zI 0)]) :: (cx, oB 23 [.ref cl, .null, .null]) :: (dq, oB 30 [.ref es, .int (zI (hq0 : Int)), .int (zI 0)]) :: (es, aR (gT X 10) 17 fq) :: Z) s H locs := hG
                  refine lv_astore (lv' := [(9, .ref wk), (8, .ref dq), (7, .ref ro), (6, .ref (ra y1)), (5, .ref (ma r1)), (4, .ref (sh v1)), (0, .ref x), (1, .int (zI (v1 : Int))), (2, .int (zI (r1 : Int))), (3, .int (zI (y1 : Int)))]) hx hb dX0_judge_115 hl (by decide) rfl (fun ls hl => ?_)
                  refine lv_aload hx hb dX0_judge_117 (lv_at hl 0 rfl) ?_
                  refine lv_aload hx hb dX0_judge_119 (lv_at hl 4 rfl) ?_
                  refine g_cv (va_runV (As := [.ref (ma r1)]) (rest := []) ⟨hx, hb, hml, hown, hts⟩ (metX23_begin hrmr1 hkdr1) (cwV 1 hts (lw_V q3120 q2356 q2357 q152 q2358) rfl rfl rfl (by decide +kernel) ⟨Nat.le_of_ble_eq_true rfl, Nat.le_of_ble_eq_true rfl⟩) (g_preV hG (g_recv hG (hG.at 0 rfl) (ci := 21) rfl)) rfl rfl hl.1 rfl (lv_room (Nat.le_of_ble_eq_true rfl)) dX0_judge_121 ⟨by show _ ≤ 620; omega, by show _ ≤ 14200; omega⟩) hG (fun F_88 V_89 ws_ H locs hp hG => ?_)
                  obtain ⟨rfl, rfl, rfl⟩ := hp
                  have hG : gW X F V ((wk, oB 21 [.ref sp, .ref cx, .ref wa, .ref (ma r1), .ref (ra (rOn (wRk (aWd a) r1))), .int (zI 0)]) :: (sp, oB 22 [.int (zI (rP (wRk (aWd a) r1) : Int)), .int (zI (rQ (wRk (aWd a) r1) : Int))]) :: (cx, oB 23 [.ref cl, .null, .null]) :: (dq, oB 30 [.ref es, .int (zI (hq0 : Int)), .int (zI 0)]) :: (es, aR (gT X 10) 17 fq) :: Z) s H locs := hG
                  refine lv_iconst (v := zI 0) hx hb dX0_judge_124 (by decide +kernel) ?_
                  refine lv_istore (lv' := [(10, .int (zI 0)), (9, .ref wk), (8, .ref dq), (7, .ref ro), (6, .ref (ra y1)), (5, .ref (ma r1)), (4, .ref (sh v1)), (0, .ref x), (1, .int (zI (v1 : Int))), (2, .int (zI (r1 : Int))), (3, .int (zI (y1 : Int)))]) hx hb dX0_judge_125 hl (by decide) rfl (fun ls hl => ?_)
                  refine lv_aload hx hb dX0_judge_127 (lv_at hl 2 rfl) ?_
                  have hG : gW X F V ((es, aR (gT X 10) 17 fq) :: (wk, oB 21 [.ref sp, .ref cx, .ref wa, .ref (ma r1), .ref (ra (rOn (wRk (aWd a) r1))), .int (zI 0)]) :: (sp, oB 22 [.int (zI (rP (wRk (aWd a) r1) : Int)), .int (zI (rQ (wRk (aWd a) r1) : Int))]) :: (cx, oB 23 [.ref cl, .null, .null]) :: (dq, oB 30 [.ref es, .int (zI (hq0 : Int)), .int (zI 0)]) :: Z) s _ _ := hG.pull 4 rfl rfl
                  have hG : gW X F V ((dq, oB 30 [.ref es, .int (zI (hq0 : Int)), .int (zI 0)]) :: (es, aR (gT X 10) 17 fq) :: (wk, oB 21 [.ref sp, .ref cx, .ref wa, .ref (ma r1), .ref (ra (rOn (wRk (aWd a) r1))), .int (zI 0)]) :: (sp, oB 22 [.int (zI (rP (wRk (aWd a) r1) : Int)), .int (zI (rQ (wRk (aWd a) r1) : Int))]) :: (cx, oB 23 [.ref cl, .null, .null]) :: Z) s _ _ := hG.pull 4 rfl rfl
                  refine g_cr (va_runV (As := []) (rest := []) ⟨hx, hb, hml, hown, hts⟩ (metJ36_iterator hdq) (cwV 0 hts (lw_V q1998 q1999 q2000 q139 q2001) rfl rfl rfl (by decide +kernel) ⟨Nat.le_of_ble_eq_true rfl, Nat.le_of_ble_eq_true rfl⟩) (g_preV hG (g_recv hG (hG.at 0 rfl) (ci := 30) rfl)) rfl rfl hl.1 rfl (lv_room (Nat.le_of_ble_eq_true rfl)) dX0_judge_129 ⟨by show _ ≤ 620; omega, by show _ ≤ 14200; omega⟩) hG (fun it F_90 V_91 ws_ H locs hp hG => ?_)
                  obtain ⟨rfl, rfl, rfl⟩ := hp
                  have hG : gW X F V ((it, oB 31 [.int (zI (hq0 : Int)), .int (zI (L.length : Int)), .int (zI (-1)), .ref dq]) :: (dq, oB 30 [.ref es, .int (zI (hq0 : Int)), .int (zI 0)]) :: (es, aR (gT X 10) 17 fq) :: (wk, oB 21 [.ref sp, .ref cx, .ref wa, .ref (ma r1), .ref (ra (rOn (wRk (aWd a) r1))), .int (zI 0)]) :: (sp, oB 22 [.int (zI (rP (wRk (aWd a) r1) : Int)), .int (zI (rQ (wRk (aWd a) r1) : Int))]) :: (cx, oB 23 [.ref cl, .null, .null]) :: Z) s H locs := hG
                  refine lv_astore (lv' := [(11, .ref it), (10, .int (zI 0)), (9, .ref wk), (8, .ref dq), (7, .ref ro), (6, .ref (ra y1)), (5, .ref (ma r1)), (4, .ref (sh v1)), (0, .ref x), (1, .int (zI (v1 : Int))), (2, .int (zI (r1 : Int))), (3, .int (zI (y1 : Int)))]) hx hb dX0_judge_132 hl (by decide) rfl (fun ls hl => ?_)
                  have hl : lv_has ls 13 [(11, .ref it), (10, .int (zI ((0 : Nat) : Int))), (9, .ref wk), (8, .ref dq), (7, .ref ro), (6, .ref (ra y1)), (5, .ref (ma r1)), (4, .ref (sh v1)), (0, .ref x), (1, .int (zI (v1 : Int))), (2, .int (zI (r1 : Int))), (3, .int (zI (y1 : Int)))] := by exact hl
                  have hG : gW X F V ((it, oB 31 [.int (zI (((hq0 + 0) % 17 : Nat) : Int)), .int (zI ((L.length - 0 : Nat) : Int)), .int (zI (-1)), .ref dq]) :: (dq, oB 30 [.ref es, .int (zI (hq0 : Int)), .int (zI 0)]) :: (es, aR (gT X 10) 17 fq) :: (wk, oB 21 [.ref sp, .ref cx, .ref wa, .ref (ma r1), .ref (ra (rOn (wRk (aWd a) r1))), .int (zI 0)]) :: (sp, oB 22 [.int (zI (rP (wRk (aWd a) r1) : Int)), .int (zI (rQ (wRk (aWd a) r1) : Int))]) :: (cx, oB 23 [.ref cl, .null, .null]) :: Z) s H locs := by rw [show (hq0 + 0) % 17 = hq0 from Nat.mod_eq_of_lt hdq.1, Nat.sub_zero]; exact hG
                  refine g_loopA (fun mz H locs ls => ∃ (j : Nat) (F1 : gF) (h8 p8 q8 : Int) (cl8 : Nat) (al8 be8 : Option Nat) (t8 : Nat) (la8 : Int), (j ≤ n + 1 ∧ mz = n + 1 - j ∧ gLe F F1 ∧ t8 = anc (wFo (aWd a)) (n - (j - 1)) y1 ∧ xWk X F1 (aWd a) (wkTo (aWd a) (wRk (aWd a) r1) (rKind (wRk (aWd a) r1)) y1 n (j - 1)) h8 p8 q8 t8 cl8 al8 be8 ∧ ∀ i, i < j → jdP (aWd a) f9 r1 y1 n i = false) ∧ gW X F1 V ((it, oB 31 [.int (zI (((hq0 + j) % 17 : Nat) : Int)), .int (zI ((L.length - j : Nat) : Int)), .int (zI la8), .ref dq]) :: (dq, oB 30 [.ref es, .int (zI (hq0 : Int)), .int (zI 0)]) :: (es, aR (gT X 10) 17 fq) :: (wk, oB 21 [.ref sp, .ref cx, .ref wa, .ref (ma r1), .ref (ra t8), .int (zI h8)]) :: (sp, oB 22 [.int (zI p8), .int (zI q8)]) :: (cx, oB 23 [.ref cl8, va_rf al8, va_rf be8]) :: Z) s H locs ∧ lv_has ls 13 [(0, .ref x), (5, .ref (ma r1)), (7, .ref ro), (9, .ref wk), (10, .int (zI ((j : Nat) : Int))), (11, .ref it)]) (n + 1 - 0) 34 814 620 14200 ⟨0, F, 0, (rP (wRk (aWd a) r1) : Int), (rQ (wRk (aWd a) r1) : Int), cl, none, none, (rOn (wRk (aWd a) r1)), (-1), ⟨by omega, rfl, gLe.rfl (V := V), hend.symm, xWk_to (o := 0) (k := wk0 (wRk (aWd a) r1)) rfl (by decide) hro9.2.1 ⟨hro9.2.2.1, hro9.2.2.2⟩, fun i hi => absurd hi (Nat.not_lt_zero _)⟩, hG, (lv_sub hl [8, 6, 4, 2, 1, 0] rfl)⟩ ⟨by omega, by omega⟩ (fun mz ihA H locs ls cells slots hroom hI => ?_)
                  obtain ⟨j, F1, h8, p8, q8, cl8, al8, be8, t8, la8, ⟨hj, hmz, hle_F1, ht8, hxk, hno⟩, hG, hl⟩ := hI
                  have hrmF := hrmr1.mono hle_F1
                  have hroF := hle_F1.1 _ _ hro
                  refine lv_aload hx hb dX0_judge_134 (lv_at hl 5 rfl) ?_
                  refine g_Fi (va_runF (C := "java/util/ArrayDeque$DeqIterator") (g_cls hG (ci := 31) rfl) (As := []) (rest := []) ⟨hx, hb, hml, hown, hts⟩ (metJ39_hasNext (n := L.length - j) (by omega)) (va_cwF 0 hts (lw_F q1472 q1486 q1488 q144 q1490) rfl rfl rfl (hG.1.2.1.2.2.1 _ qf13) (by decide +kernel) ⟨Nat.le_of_ble_eq_true rfl, Nat.le_of_ble_eq_true rfl⟩) (g_preV hG (g_recv hG (hG.at 0 rfl) (ci := 31) rfl)) rfl rfl hl.1 rfl (lv_room (Nat.le_of_ble_eq_true rfl)) dX0_judge_136 ⟨by show _ ≤ 620; omega, by show _ ≤ 14200; omega⟩) hG (fun r_92 F_93 V_94 ws_ H locs hp hG => ?_)
                  obtain ⟨rfl, rfl, rfl, rfl⟩ := hp
                  have hG : gW X F1 V ((it, oB 31 [.int (zI (((hq0 + j) % 17 : Nat) : Int)), .int (zI ((L.length - j : Nat) : Int)), .int (zI la8), .ref dq]) :: (dq, oB 30 [.ref es, .int (zI (hq0 : Int)), .int (zI 0)]) :: (es, aR (gT X 10) 17 fq) :: (wk, oB 21 [.ref sp, .ref cx, .ref wa, .ref (ma r1), .ref (ra t8), .int (zI h8)]) :: (sp, oB 22 [.int (zI p8), .int (zI q8)]) :: (cx, oB 23 [.ref cl8, va_rf al8, va_rf be8]) :: Z) s H locs := hG
                  by_cases hj0 : 0 < L.length - j
                  · refine g_topz (y := 1) (by rw [decide_eq_true hj0]; rfl) ?_
                    refine g_eq (tgt := 212) hx hb dX0_judge_141 (by decide) (by decide) (fun hq => ?_) (fun hq => ?_)
                    · exfalso; omega
                    · refine lv_aload hx hb dX0_judge_144 (lv_at hl 5 rfl) ?_
                      have hnx : L.getD j 0 = ra (anc (wFo (aWd a)) (n - j) y1) := by rw [hL, sncL_get (by omega), show n + 1 - 1 - j = n - j by omega]
                      have hlej := hle (n - j) (by omega)
                      refine g_Fr (va_runF (C := "java/util/ArrayDeque$DeqIterator") (g_cls hG (ci := 31) rfl) (As := []) (rest := []) ⟨hx, hb, hml, hown, hts⟩ (metJ39_next (k := j) hdq (by omega)) (va_cwF 0 hts (lw_F q1513 q1628 q1630 q144 q1632) rfl rfl rfl (hG.1.2.1.2.2.1 _ qf14) (by decide +kernel) ⟨Nat.le_of_ble_eq_true rfl, Nat.le_of_ble_eq_true rfl⟩) (g_preV hG (g_recv hG (hG.at 0 rfl) (ci := 31) rfl)) rfl rfl hl.1 rfl (lv_room (Nat.le_of_ble_eq_true rfl)) dX0_judge_146 ⟨by show _ ≤ 620; omega, by show _ ≤ 14200; omega⟩) hG (fun r_95 F_96 V_97 ws_ H locs hp hG => ?_)
                      obtain ⟨hu, rfl, rfl, rfl⟩ := hp
                      rw [hnx] at hu
                      subst hu
                      have hG : gW X F1 V ((it, oB 31 [.int (zI (((hq0 + (j + 1)) % 17 : Nat) : Int)), .int (zI ((L.length - (j + 1) : Nat) : Int)), .int (zI (((hq0 + j) % 17 : Nat) : Int)), .ref dq]) :: (dq, oB 30 [.ref es, .int (zI (hq0 : Int)), .int (zI 0)]) :: (es, aR (gT X 10) 17 fq) :: (wk, oB 21 [.ref sp, .ref cx, .ref wa, .ref (ma r1), .ref (ra t8), .int (zI h8)]) :: (sp, oB 22 [.int (zI p8), .int (zI q8)]) :: (cx, oB 23 [.ref cl8, va_rf al8, va_rf be8]) :: Z) s H locs := hG
                      have hR1 := hR.mono hle_F1
                      refine va_castE hx hb hown (hts _ q2028) (rev_recv hG (hR1 (anc (wFo (aWd a)) (n - j) y1) (by omega)).1) dX0_judge_151 ?_
                      refine lv_astore (lv' := [(12, .ref (ra (anc (wFo (aWd a)) (n - j) y1))), (0, .ref x), (5, .ref (ma r1)), (7, .ref ro), (9, .ref wk), (10, .int (zI ((j : Nat) : Int))), (11, .ref it)]) hx hb dX0_judge_154 hl (by decide) rfl (fun ls hl => ?_)
                      refine lv_aload hx hb dX0_judge_156 (lv_at hl 0 rfl) ?_
                      refine lv_aload hx hb dX0_judge_158 (lv_at hl 2 rfl) ?_
                      refine g_rmget hx hb hkdr1 hts hown hG (hG.fz hrmF) 2 (by decide) (hts _ q2084) rfl dX0_judge_160 ?_
                      refine lv_acmp_eq (rx := (some (ra (anc (wFo (aWd a)) (n - j) y1)))) (ry := (some (ra (rOn (wRk (aWd a) r1))))) (tgt := 173) hx hb dX0_judge_163 (by decide) (fun h2 => ?_) (fun h2 => ?_)
                      · have hj00 : j = 0 := by have := (anc_eq hK.fo hb9 (show n - j ≤ n by omega)).mp (hR.inj (by omega) hrkr1.2.2.1 (Option.some.inj h2)); omega
                        have hxk0 : xWk X F1 (aWd a) (wkTo (aWd a) (wRk (aWd a) r1) (rKind (wRk (aWd a) r1)) y1 n j) h8 p8 q8 t8 cl8 al8 be8 := by have q := hxk; rw [hj00] at q; rw [hj00]; exact q
                        have hxK := hxk0
                        obtain ⟨⟨hk1, hk2⟩, hk3, hk4, hk5, hk6⟩ := hxK
                        refine lv_aload hx hb dX0_judge_173 (lv_at hl 3 rfl) ?_
                        refine lv_iload hx hb dX0_judge_175 (lv_at hl 5 rfl) ?_
                        refine g_ci (run_row_asInt hso hroF hVr (i := j) (by omega) (hfx j (by omega)) ⟨hx, hb, hml, hown, hts⟩ q3122 hG ⟨Nat.le_of_ble_eq_true rfl, Nat.le_of_ble_eq_true rfl⟩ hl.1 (lv_room (Nat.le_of_ble_eq_true rfl)) dX0_judge_177 ⟨by show _ ≤ 620; omega, by show _ ≤ 14200; omega⟩) hG (fun r_98 F_99 V_100 ws_ H locs hp hG => ?_)
                        obtain ⟨rfl, rfl, rfl, rfl⟩ := hp
                        have hG : gW X F1 V ((it, oB 31 [.int (zI (((hq0 + (j + 1)) % 17 : Nat) : Int)), .int (zI ((L.length - (j + 1) : Nat) : Int)), .int (zI (((hq0 + j) % 17 : Nat) : Int)), .ref dq]) :: (dq, oB 30 [.ref es, .int (zI (hq0 : Int)), .int (zI 0)]) :: (es, aR (gT X 10) 17 fq) :: (wk, oB 21 [.ref sp, .ref cx, .ref wa, .ref (ma r1), .ref (ra t8), .int (zI h8)]) :: (sp, oB 22 [.int (zI p8), .int (zI q8)]) :: (cx, oB 23 [.ref cl8, va_rf al8, va_rf be8]) :: Z) s H locs := hG
                        refine lv_topx (zI (rwI f9 j)) (rwI_z _ _) ?_
                        have hrg := rwI_R f9 j
                        refine lv_aload hx hb dX0_judge_180 (lv_at hl 4 rfl) ?_
                        have hG : gW X F1 V ((wk, oB 21 [.ref sp, .ref cx, .ref wa, .ref (ma r1), .ref (ra t8), .int (zI h8)]) :: (it, oB 31 [.int (zI (((hq0 + (j + 1)) % 17 : Nat) : Int)), .int (zI ((L.length - (j + 1) : Nat) : Int)), .int (zI (((hq0 + j) % 17 : Nat) : Int)), .ref dq]) :: (dq, oB 30 [.ref es, .int (zI (hq0 : Int)), .int (zI 0)]) :: (es, aR (gT X 10) 17 fq) :: (sp, oB 22 [.int (zI p8), .int (zI q8)]) :: (cx, oB 23 [.ref cl8, va_rf al8, va_rf be8]) :: Z) s _ _ := hG.pull 3 rfl rfl
                        refine g_ci (va_runV (As := []) (rest := [.int (zI (rwI f9 j))]) ⟨hx, hb, hml, hown, hts⟩ (metX23_isLost (h9 := h8) (by omega)) (cwV 0 hts (lw_V q2463 q2379 q2380 q152 q2381) rfl rfl rfl (by decide +kernel) ⟨Nat.le_of_ble_eq_true rfl, Nat.le_of_ble_eq_true rfl⟩) (g_preV hG (g_recv hG (hG.at 0 rfl) (ci := 21) rfl)) rfl rfl hl.1 rfl (lv_room (Nat.le_of_ble_eq_true rfl)) dX0_judge_182 ⟨by show _ ≤ 620; omega, by show _ ≤ 14200; omega⟩) hG (fun r_101 F_102 V_103 ws_ H locs hp hG => ?_)
                        obtain ⟨rfl, rfl, rfl, rfl⟩ := hp
                        have hG : gW X F1 V ((wk, oB 21 [.ref sp, .ref cx, .ref wa, .ref (ma r1), .ref (ra t8), .int (zI h8)]) :: (it, oB 31 [.int (zI (((hq0 + (j + 1)) % 17 : Nat) : Int)), .int (zI ((L.length - (j + 1) : Nat) : Int)), .int (zI (((hq0 + j) % 17 : Nat) : Int)), .ref dq]) :: (dq, oB 30 [.ref es, .int (zI (hq0 : Int)), .int (zI 0)]) :: (es, aR (gT X 10) 17 fq) :: (sp, oB 22 [.int (zI p8), .int (zI q8)]) :: (cx, oB 23 [.ref cl8, va_rf al8, va_rf be8]) :: Z) s H locs := hG
                        by_cases h3 : h8 = 3
                        · refine g_topz (y := 1) (if_pos h3) ?_
                          refine g_eq (tgt := 192) hx hb dX0_judge_185 (by decide) (by decide) (fun hq => ?_) (fun hq => ?_)
                          · exfalso; omega
                          · have hpo : pOf (wkF (aWd a) r1 y1 n j) = -1 := if_pos (by have q : ((kHow (wkTo (aWd a) (wRk (aWd a) r1) (rKind (wRk (aWd a) r1)) y1 n j) : Nat) : Int) = 3 := hk1.symm.trans h3; show kHow (wkTo (aWd a) (wRk (aWd a) r1) (rKind (wRk (aWd a) r1)) y1 n j) = 3; omega)
                            refine lv_iconst (v := zI (-1)) hx hb dX0_judge_188 (by decide +kernel) ?_
                            refine lv_goto (tgt := 200) hx hb dX0_judge_189 (by decide) ?_
                            refine g_ceq (tgt := 206) hx hb dX0_judge_200 (by decide) (by omega) (fun h9e => ?_) (fun h9e => ?_)
                            · have hjd : jdP (aWd a) f9 r1 y1 n j = false := decide_eq_false (fun q => q (h9e.trans hpo.symm))
                              refine lv_iinc (v := zI (((j : Nat) : Int) + 1 : Int)) (lv' := [(10, .int (zI (((j : Nat) : Int) + 1 : Int))), (12, .ref (ra (anc (wFo (aWd a)) (n - j) y1))), (0, .ref x), (5, .ref (ma r1)), (7, .ref ro), (9, .ref wk), (11, .ref it)]) hx hb dX0_judge_206 hl (k := 5) rfl ((zI_add _ _).trans (congrArg zI (by omega))) (by decide) rfl (fun ls hl => ?_)
                              refine lv_goto (tgt := 134) hx hb dX0_judge_209 (by decide) ?_
                              have hl : lv_has ls 13 [(10, .int (zI ((j + 1 : Nat) : Int))), (12, .ref (ra (anc (wFo (aWd a)) (n - j) y1))), (0, .ref x), (5, .ref (ma r1)), (7, .ref ro), (9, .ref wk), (11, .ref it)] := by exact hl
                              have hG : gW X F1 V ((cx, oB 23 [.ref cl8, va_rf al8, va_rf be8]) :: (wk, oB 21 [.ref sp, .ref cx, .ref wa, .ref (ma r1), .ref (ra t8), .int (zI h8)]) :: (it, oB 31 [.int (zI (((hq0 + (j + 1)) % 17 : Nat) : Int)), .int (zI ((L.length - (j + 1) : Nat) : Int)), .int (zI (((hq0 + j) % 17 : Nat) : Int)), .ref dq]) :: (dq, oB 30 [.ref es, .int (zI (hq0 : Int)), .int (zI 0)]) :: (es, aR (gT X 10) 17 fq) :: (sp, oB 22 [.int (zI p8), .int (zI q8)]) :: Z) s _ _ := hG.pull 5 rfl rfl
                              have hG : gW X F1 V ((sp, oB 22 [.int (zI p8), .int (zI q8)]) :: (cx, oB 23 [.ref cl8, va_rf al8, va_rf be8]) :: (wk, oB 21 [.ref sp, .ref cx, .ref wa, .ref (ma r1), .ref (ra t8), .int (zI h8)]) :: (it, oB 31 [.int (zI (((hq0 + (j + 1)) % 17 : Nat) : Int)), .int (zI ((L.length - (j + 1) : Nat) : Int)), .int (zI (((hq0 + j) % 17 : Nat) : Int)), .ref dq]) :: (dq, oB 30 [.ref es, .int (zI (hq0 : Int)), .int (zI 0)]) :: (es, aR (gT X 10) 17 fq) :: Z) s _ _ := hG.pull 5 rfl rfl
                              have hG : gW X F1 V ((wk, oB 21 [.ref sp, .ref cx, .ref wa, .ref (ma r1), .ref (ra t8), .int (zI h8)]) :: (sp, oB 22 [.int (zI p8), .int (zI q8)]) :: (cx, oB 23 [.ref cl8, va_rf al8, va_rf be8]) :: (it, oB 31 [.int (zI (((hq0 + (j + 1)) % 17 : Nat) : Int)), .int (zI ((L.length - (j + 1) : Nat) : Int)), .int (zI (((hq0 + j) % 17 : Nat) : Int)), .ref dq]) :: (dq, oB 30 [.ref es, .int (zI (hq0 : Int)), .int (zI 0)]) :: (es, aR (gT X 10) 17 fq) :: Z) s _ _ := hG.pull 2 rfl rfl
                              have hG : gW X F1 V ((es, aR (gT X 10) 17 fq) :: (wk, oB 21 [.ref sp, .ref cx, .ref wa, .ref (ma r1), .ref (ra t8), .int (zI h8)]) :: (sp, oB 22 [.int (zI p8), .int (zI q8)]) :: (cx, oB 23 [.ref cl8, va_rf al8, va_rf be8]) :: (it, oB 31 [.int (zI (((hq0 + (j + 1)) % 17 : Nat) : Int)), .int (zI ((L.length - (j + 1) : Nat) : Int)), .int (zI (((hq0 + j) % 17 : Nat) : Int)), .ref dq]) :: (dq, oB 30 [.ref es, .int (zI (hq0 : Int)), .int (zI 0)]) :: Z) s _ _ := hG.pull 5 rfl rfl
                              have hG : gW X F1 V ((dq, oB 30 [.ref es, .int (zI (hq0 : Int)), .int (zI 0)]) :: (es, aR (gT X 10) 17 fq) :: (wk, oB 21 [.ref sp, .ref cx, .ref wa, .ref (ma r1), .ref (ra t8), .int (zI h8)]) :: (sp, oB 22 [.int (zI p8), .int (zI q8)]) :: (cx, oB 23 [.ref cl8, va_rf al8, va_rf be8]) :: (it, oB 31 [.int (zI (((hq0 + (j + 1)) % 17 : Nat) : Int)), .int (zI ((L.length - (j + 1) : Nat) : Int)), .int (zI (((hq0 + j) % 17 : Nat) : Int)), .ref dq]) :: Z) s _ _ := hG.pull 5 rfl rfl
                              have hG : gW X F1 V ((it, oB 31 [.int (zI (((hq0 + (j + 1)) % 17 : Nat) : Int)), .int (zI ((L.length - (j + 1) : Nat) : Int)), .int (zI (((hq0 + j) % 17 : Nat) : Int)), .ref dq]) :: (dq, oB 30 [.ref es, .int (zI (hq0 : Int)), .int (zI 0)]) :: (es, aR (gT X 10) 17 fq) :: (wk, oB 21 [.ref sp, .ref cx, .ref wa, .ref (ma r1), .ref (ra t8), .int (zI h8)]) :: (sp, oB 22 [.int (zI p8), .int (zI q8)]) :: (cx, oB 23 [.ref cl8, va_rf al8, va_rf be8]) :: Z) s _ _ := hG.pull 5 rfl rfl
                              have r5 : n + 1 - (j + 1) < mz := by omega
                              exact ihA (n + 1 - (j + 1)) r5 H locs ls _ _ (room_S hroom r5) ⟨(j + 1), F1, h8, p8, q8, cl8, al8, be8, t8, _, ⟨by omega, rfl, hle_F1, by rw [ht8, hj00], by rw [Nat.add_sub_cancel]; exact hxk0, fun i hi => by by_cases e : i = j; (rw [e]; exact hjd); exact hno i (by omega)⟩, hG, (lv_sub hl [2, 3, 4, 5, 0, 6] rfl)⟩
                            · have hjd : jdP (aWd a) f9 r1 y1 n j = true := decide_eq_true (fun q => h9e (q.trans hpo))
                              have hfs : fsB (jdP (aWd a) f9 r1 y1 n) (n + 1) 0 = some j := fsB_some hjd _ _ (Nat.zero_le _) (by omega) (fun i _ h2 => hno i h2)
                              refine lv_iload hx hb dX0_judge_203 (lv_at hl 5 rfl) ?_
                              have hG : gW X F1 V ((wk, oB 21 [.ref sp, .ref cx, .ref wa, .ref (ma r1), .ref (ra t8), .int (zI h8)]) :: (dq, oB 30 [.ref es, .int (zI (hq0 : Int)), .int (zI 0)]) :: (es, aR (gT X 10) 17 fq) :: (sp, oB 22 [.int (zI p8), .int (zI q8)]) :: (cx, oB 23 [.ref cl8, va_rf al8, va_rf be8]) :: Z) s _ _ := hG.drop 1 rfl rfl
                              have hG : gW X F1 V ((wk, oB 21 [.ref sp, .ref cx, .ref wa, .ref (ma r1), .ref (ra t8), .int (zI h8)]) :: (es, aR (gT X 10) 17 fq) :: (sp, oB 22 [.int (zI p8), .int (zI q8)]) :: (cx, oB 23 [.ref cl8, va_rf al8, va_rf be8]) :: Z) s _ _ := hG.drop 1 rfl rfl
                              have hG : gW X F1 V ((wk, oB 21 [.ref sp, .ref cx, .ref wa, .ref (ma r1), .ref (ra t8), .int (zI h8)]) :: (sp, oB 22 [.int (zI p8), .int (zI q8)]) :: (cx, oB 23 [.ref cl8, va_rf al8, va_rf be8]) :: Z) s _ _ := hG.drop 1 rfl rfl
                              have hG : gW X F1 V ((sp, oB 22 [.int (zI p8), .int (zI q8)]) :: (cx, oB 23 [.ref cl8, va_rf al8, va_rf be8]) :: Z) s _ _ := hG.drop 0 rfl rfl
                              have hG : gW X F1 V ((cx, oB 23 [.ref cl8, va_rf al8, va_rf be8]) :: Z) s _ _ := hG.drop 0 rfl rfl
                              have hG : gW X F1 V (Z) s _ _ := hG.drop 0 rfl rfl
                              refine vx_ret ?_
                              exact g_iret hx hb hr hlocks hG (by have e9 : opJudge a (v1 : Int) (r1 : Int) (y1 : Int) = (((j : Nat) : Int), a) := (by rw [opJudge_s hsvv hb9 (by omega) (by omega) (by omega), if_neg hnb, hfs]; rfl); rw [e9]; exact ⟨hle_F1, rfl, ((hS.mono hle_F1)).ex, rfl⟩) ⟨by show _ ≤ 620; omega, by show _ ≤ 14200; omega⟩ dX0_judge_205
                        · refine g_topz (y := 0) (if_neg h3) ?_
                          have hn3 : kHow (wkTo (aWd a) (wRk (aWd a) r1) (rKind (wRk (aWd a) r1)) y1 n j) ≠ 3 := fun q => h3 (by rw [hk1, q]; rfl)
                          have hp5 := hk5 hn3
                          have hlt9 := hk4
                          have hpR : -2147483648 ≤ p8 ∧ p8 < 2147483648 := by have := (hK.tx (r := kL (wkTo (aWd a) (wRk (aWd a) r1) (rKind (wRk (aWd a) r1)) y1 n j)) hk4.1).1; have q := hp5.2.1; have q2 := hp5.2.2.2.1; omega
                          refine g_eq (tgt := 192) hx hb dX0_judge_185 (by decide) (by decide) (fun hq => ?_) (fun hq => ?_)
                          · have hpo : pOf (wkF (aWd a) r1 y1 n j) = p8 := (if_neg hn3).trans hp5.2.1.symm
                            refine lv_aload hx hb dX0_judge_192 (lv_at hl 4 rfl) ?_
                            refine g_get (ci := 21) hx hb hts in_X23 hown hG (hG.at 0 rfl) rfl 0 (Nat.le_of_ble_eq_true rfl) (hts _ q2331) (fun _ h9 => h9) rfl dX0_judge_194 ?_
                            refine g_get (ci := 22) hx hb hts in_X24 hown hG (hG.at 4 rfl) rfl 0 (Nat.le_of_ble_eq_true rfl) (hts _ q2300) (fun _ h9 => h9) rfl dX0_judge_197 ?_
                            refine g_ceq (tgt := 206) hx hb dX0_judge_200 (by decide) (by omega) (fun h9e => ?_) (fun h9e => ?_)
                            · have hjd : jdP (aWd a) f9 r1 y1 n j = false := decide_eq_false (fun q => q (h9e.trans hpo.symm))
                              refine lv_iinc (v := zI (((j : Nat) : Int) + 1 : Int)) (lv' := [(10, .int (zI (((j : Nat) : Int) + 1 : Int))), (12, .ref (ra (anc (wFo (aWd a)) (n - j) y1))), (0, .ref x), (5, .ref (ma r1)), (7, .ref ro), (9, .ref wk), (11, .ref it)]) hx hb dX0_judge_206 hl (k := 5) rfl ((zI_add _ _).trans (congrArg zI (by omega))) (by decide) rfl (fun ls hl => ?_)
                              refine lv_goto (tgt := 134) hx hb dX0_judge_209 (by decide) ?_
                              have hl : lv_has ls 13 [(10, .int (zI ((j + 1 : Nat) : Int))), (12, .ref (ra (anc (wFo (aWd a)) (n - j) y1))), (0, .ref x), (5, .ref (ma r1)), (7, .ref ro), (9, .ref wk), (11, .ref it)] := by exact hl
                              have hG : gW X F1 V ((cx, oB 23 [.ref cl8, va_rf al8, va_rf be8]) :: (wk, oB 21 [.ref sp, .ref cx, .ref wa, .ref (ma r1), .ref (ra t8), .int (zI h8)]) :: (it, oB 31 [.int (zI (((hq0 + (j + 1)) % 17 : Nat) : Int)), .int (zI ((L.length - (j + 1) : Nat) : Int)), .int (zI (((hq0 + j) % 17 : Nat) : Int)), .ref dq]) :: (dq, oB 30 [.ref es, .int (zI (hq0 : Int)), .int (zI 0)]) :: (es, aR (gT X 10) 17 fq) :: (sp, oB 22 [.int (zI p8), .int (zI q8)]) :: Z) s _ _ := hG.pull 5 rfl rfl
                              have hG : gW X F1 V ((sp, oB 22 [.int (zI p8), .int (zI q8)]) :: (cx, oB 23 [.ref cl8, va_rf al8, va_rf be8]) :: (wk, oB 21 [.ref sp, .ref cx, .ref wa, .ref (ma r1), .ref (ra t8), .int (zI h8)]) :: (it, oB 31 [.int (zI (((hq0 + (j + 1)) % 17 : Nat) : Int)), .int (zI ((L.length - (j + 1) : Nat) : Int)), .int (zI (((hq0 + j) % 17 : Nat) : Int)), .ref dq]) :: (dq, oB 30 [.ref es, .int (zI (hq0 : Int)), .int (zI 0)]) :: (es, aR (gT X 10) 17 fq) :: Z) s _ _ := hG.pull 5 rfl rfl
                              have hG : gW X F1 V ((wk, oB 21 [.ref sp, .ref cx, .ref wa, .ref (ma r1), .ref (ra t8), .int (zI h8)]) :: (sp, oB 22 [.int (zI p8), .int (zI q8)]) :: (cx, oB 23 [.ref cl8, va_rf al8, va_rf be8]) :: (it, oB 31 [.int (zI (((hq0 + (j + 1)) % 17 : Nat) : Int)), .int (zI ((L.length - (j + 1) : Nat) : Int)), .int (zI (((hq0 + j) % 17 : Nat) : Int)), .ref dq]) :: (dq, oB 30 [.ref es, .int (zI (hq0 : Int)), .int (zI 0)]) :: (es, aR (gT X 10) 17 fq) :: Z) s _ _ := hG.pull 2 rfl rfl
                              have hG : gW X F1 V ((es, aR (gT X 10) 17 fq) :: (wk, oB 21 [.ref sp, .ref cx, .ref wa, .ref (ma r1), .ref (ra t8), .int (zI h8)]) :: (sp, oB 22 [.int (zI p8), .int (zI q8)]) :: (cx, oB 23 [.ref cl8, va_rf al8, va_rf be8]) :: (it, oB 31 [.int (zI (((hq0 + (j + 1)) % 17 : Nat) : Int)), .int (zI ((L.length - (j + 1) : Nat) : Int)), .int (zI (((hq0 + j) % 17 : Nat) : Int)), .ref dq]) :: (dq, oB 30 [.ref es, .int (zI (hq0 : Int)), .int (zI 0)]) :: Z) s _ _ := hG.pull 5 rfl rfl
                              have hG : gW X F1 V ((dq, oB 30 [.ref es, .int (zI (hq0 : Int)), .int (zI 0)]) :: (es, aR (gT X 10) 17 fq) :: (wk, oB 21 [.ref sp, .ref cx, .ref wa, .ref (ma r1), .ref (ra t8), .int (zI h8)]) :: (sp, oB 22 [.int (zI p8), .int (zI q8)]) :: (cx, oB 23 [.ref cl8, va_rf al8, va_rf be8]) :: (it, oB 31 [.int (zI (((hq0 + (j + 1)) % 17 : Nat) : Int)), .int (zI ((L.length - (j + 1) : Nat) : Int)), .int (zI (((hq0 + j) % 17 : Nat) : Int)), .ref dq]) :: Z) s _ _ := hG.pull 5 rfl rfl
                              have hG : gW X F1 V ((it, oB 31 [.int (zI (((hq0 + (j + 1)) % 17 : Nat) : Int)), .int (zI ((L.length - (j + 1) : Nat) : Int)), .int (zI (((hq0 + j) % 17 : Nat) : Int)), .ref dq]) :: (dq, oB 30 [.ref es, .int (zI (hq0 : Int)), .int (zI 0)]) :: (es, aR (gT X 10) 17 fq) :: (wk, oB 21 [.ref sp, .ref cx, .ref wa, .ref (ma r1), .ref (ra t8), .int (zI h8)]) :: (sp, oB 22 [.int (zI p8), .int (zI q8)]) :: (cx, oB 23 [.ref cl8, va_rf al8, va_rf be8]) :: Z) s _ _ := hG.pull 5 rfl rfl
                              have r5 : n + 1 - (j + 1) < mz := by omega
                              exact ihA (n + 1 - (j + 1)) r5 H locs ls _ _ (room_S hroom r5) ⟨(j + 1), F1, h8, p8, q8, cl8, al8, be8, t8, _, ⟨by omega, rfl, hle_F1, by rw [ht8, hj00], by rw [Nat.add_sub_cancel]; exact hxk0, fun i hi => by by_cases e : i = j; (rw [e]; exact hjd); exact hno i (by omega)⟩, hG, (lv_sub hl [2, 3, 4, 5, 0, 6] rfl)⟩
                            · have hjd : jdP (aWd a) f9 r1 y1 n j = true := decide_eq_true (fun q => h9e (q.trans hpo))
                              have hfs : fsB (jdP (aWd a) f9 r1 y1 n) (n + 1) 0 = some j := fsB_some hjd _ _ (Nat.zero_le _) (by omega) (fun i _ h2 => hno i h2)
                              refine lv_iload hx hb dX0_judge_203 (lv_at hl 5 rfl) ?_
                              have hG : gW X F1 V ((wk, oB 21 [.ref sp, .ref cx, .ref wa, .ref (ma r1), .ref (ra t8), .int (zI h8)]) :: (dq, oB 30 [.ref es, .int (zI (hq0 : Int)), .int (zI 0)]) :: (es, aR (gT X 10) 17 fq) :: (sp, oB 22 [.int (zI p8), .int (zI q8)]) :: (cx, oB 23 [.ref cl8, va_rf al8, va_rf be8]) :: Z) s _ _ := hG.drop 1 rfl rfl
                              have hG : gW X F1 V ((wk, oB 21 [.ref sp, .ref cx, .ref wa, .ref (ma r1), .ref (ra t8), .int (zI h8)]) :: (es, aR (gT X 10) 17 fq) :: (sp, oB 22 [.int (zI p8), .int (zI q8)]) :: (cx, oB 23 [.ref cl8, va_rf al8, va_rf be8]) :: Z) s _ _ := hG.drop 1 rfl rfl
                              have hG : gW X F1 V ((wk, oB 21 [.ref sp, .ref cx, .ref wa, .ref (ma r1), .ref (ra t8), .int (zI h8)]) :: (sp, oB 22 [.int (zI p8), .int (zI q8)]) :: (cx, oB 23 [.ref cl8, va_rf al8, va_rf be8]) :: Z) s _ _ := hG.drop 1 rfl rfl
                              have hG : gW X F1 V ((sp, oB 22 [.int (zI p8), .int (zI q8)]) :: (cx, oB 23 [.ref cl8, va_rf al8, va_rf be8]) :: Z) s _ _ := hG.drop 0 rfl rfl
                              have hG : gW X F1 V ((cx, oB 23 [.ref cl8, va_rf al8, va_rf be8]) :: Z) s _ _ := hG.drop 0 rfl rfl
                              have hG : gW X F1 V (Z) s _ _ := hG.drop 0 rfl rfl
                              refine vx_ret ?_
                              exact g_iret hx hb hr hlocks hG (by have e9 : opJudge a (v1 : Int) (r1 : Int) (y1 : Int) = (((j : Nat) : Int), a) := (by rw [opJudge_s hsvv hb9 (by omega) (by omega) (by omega), if_neg hnb, hfs]; rfl); rw [e9]; exact ⟨hle_F1, rfl, ((hS.mono hle_F1)).ex, rfl⟩) ⟨by show _ ≤ 620; omega, by show _ ≤ 14200; omega⟩ dX0_judge_205
                          · exfalso; omega
                      · have hj00 : j ≠ 0 := fun q => h2 (by rw [(anc_eq hK.fo hb9 (show n - j ≤ n by omega)).mpr (by omega)])
                        obtain ⟨d, rfl⟩ : ∃ z, j = z + 1 := ⟨j - 1, by omega⟩
                        rw [Nat.add_sub_cancel] at ht8 hxk
                        have hfd : wFo (aWd a) (anc (wFo (aWd a)) (n - (d + 1)) y1) = some (anc (wFo (aWd a)) (n - d) y1) := by have := hfo (n - (d + 1)) (by omega); rw [show n - (d + 1) + 1 = n - d by omega] at this; exact this
                        refine lv_aload hx hb dX0_judge_166 (lv_at hl 4 rfl) ?_
                        refine lv_aload hx hb dX0_judge_168 (lv_at hl 0 rfl) ?_
                        have hG : gW X F1 V ((cx, oB 23 [.ref cl8, va_rf al8, va_rf be8]) :: (it, oB 31 [.int (zI (((hq0 + ((d + 1) + 1)) % 17 : Nat) : Int)), .int (zI ((L.length - ((d + 1) + 1) : Nat) : Int)), .int (zI (((hq0 + (d + 1)) % 17 : Nat) : Int)), .ref dq]) :: (dq, oB 30 [.ref es, .int (zI (hq0 : Int)), .int (zI 0)]) :: (es, aR (gT X 10) 17 fq) :: (wk, oB 21 [.ref sp, .ref cx, .ref wa, .ref (ma r1), .ref (ra t8), .int (zI h8)]) :: (sp, oB 22 [.int (zI p8), .int (zI q8)]) :: Z) s _ _ := hG.pull 5 rfl rfl
                        have hG : gW X F1 V ((sp, oB 22 [.int (zI p8), .int (zI q8)]) :: (cx, oB 23 [.ref cl8, va_rf al8, va_rf be8]) :: (it, oB 31 [.int (zI (((hq0 + ((d + 1) + 1)) % 17 : Nat) : Int)), .int (zI ((L.length - ((d + 1) + 1) : Nat) : Int)), .int (zI (((hq0 + (d + 1)) % 17 : Nat) : Int)), .ref dq]) :: (dq, oB 30 [.ref es, .int (zI (hq0 : Int)), .int (zI 0)]) :: (es, aR (gT X 10) 17 fq) :: (wk, oB 21 [.ref sp, .ref cx, .ref wa, .ref (ma r1), .ref (ra t8), .int (zI h8)]) :: Z) s _ _ := hG.pull 5 rfl rfl
                        have hG : gW X F1 V ((wk, oB 21 [.ref sp, .ref cx, .ref wa, .ref (ma r1), .ref (ra t8), .int (zI h8)]) :: (sp, oB 22 [.int (zI p8), .int (zI q8)]) :: (cx, oB 23 [.ref cl8, va_rf al8, va_rf be8]) :: (it, oB 31 [.int (zI (((hq0 + ((d + 1) + 1)) % 17 : Nat) : Int)), .int (zI ((L.length - ((d + 1) + 1) : Nat) : Int)), .int (zI (((hq0 + (d + 1)) % 17 : Nat) : Int)), .ref dq]) :: (dq, oB 30 [.ref es, .int (zI (hq0 : Int)), .int (zI 0)]) :: (es, aR (gT X 10) 17 fq) :: Z) s _ _ := hG.pull 5 rfl rfl
                        refine g_cv (va_runV (As := [.ref (ra (anc (wFo (aWd a)) (n - (d + 1)) y1))]) (rest := []) ⟨hx, hb, hml, hown, hts⟩ (metX23_step (b := (anc (wFo (aWd a)) (n - (d + 1)) y1)) hR1 hK hxk (by omega) hfd (fun h => (hxk.2.2.2.1 h).1.symm.trans ht8) hW.1 hrmF hkdr1 hrkr1.2.1) (cwV 1 hts (lw_V q3121 q2371 q2372 q152 q2373) rfl rfl rfl (by decide +kernel) ⟨Nat.le_of_ble_eq_true rfl, Nat.le_of_ble_eq_true rfl⟩) (g_preV hG (g_recv hG (hG.at 0 rfl) (ci := 21) rfl)) rfl rfl hl.1 rfl (lv_room (Nat.le_of_ble_eq_true rfl)) dX0_judge_170 ⟨by show _ ≤ 620; omega, by show _ ≤ 14200; omega⟩) hG (fun G2 V_105 ws_ H locs hp hG => ?_)
                        obtain ⟨hle_G2, rfl, h7, p7, q7, cl7, al7, be7, hk7, rfl⟩ := hp
                        have hG : gW X G2 V ((wk, oB 21 [.ref sp, .ref cx, .ref wa, .ref (ma r1), .ref (ra (anc (wFo (aWd a)) (n - (d + 1)) y1)), .int (zI h7)]) :: (sp, oB 22 [.int (zI p7), .int (zI q7)]) :: (cx, oB 23 [.ref cl7, va_rf al7, va_rf be7]) :: (it, oB 31 [.int (zI (((hq0 + ((d + 1) + 1)) % 17 : Nat) : Int)), .int (zI ((L.length - ((d + 1) + 1) : Nat) : Int)), .int (zI (((hq0 + (d + 1)) % 17 : Nat) : Int)), .ref dq]) :: (dq, oB 30 [.ref es, .int (zI (hq0 : Int)), .int (zI 0)]) :: (es, aR (gT X 10) 17 fq) :: Z) s H locs := hG
                        have hk7 : xWk X G2 (aWd a) (wkTo (aWd a) (wRk (aWd a) r1) (rKind (wRk (aWd a) r1)) y1 n (d + 1)) h7 p7 q7 (anc (wFo (aWd a)) (n - (d + 1)) y1) cl7 al7 be7 := hk7
                        have hxK := hk7
                        obtain ⟨⟨hk1, hk2⟩, hk3, hk4, hk5, hk6⟩ := hxK
                        refine lv_aload hx hb dX0_judge_173 (lv_at hl 3 rfl) ?_
                        refine lv_iload hx hb dX0_judge_175 (lv_at hl 5 rfl) ?_
                        refine g_ci (run_row_asInt hso (hle_G2.1 _ _ hroF) hVr (i := (d + 1)) (by omega) (hfx (d + 1) (by omega)) ⟨hx, hb, hml, hown, hts⟩ q3122 hG ⟨Nat.le_of_ble_eq_true rfl, Nat.le_of_ble_eq_true rfl⟩ hl.1 (lv_room (Nat.le_of_ble_eq_true rfl)) dX0_judge_177 ⟨by show _ ≤ 620; omega, by show _ ≤ 14200; omega⟩) hG (fun r_106 F_107 V_108 ws_ H locs hp hG => ?_)
                        obtain ⟨rfl, rfl, rfl, rfl⟩ := hp
                        have hG : gW X G2 V ((wk, oB 21 [.ref sp, .ref cx, .ref wa, .ref (ma r1), .ref (ra (anc (wFo (aWd a)) (n - (d + 1)) y1)), .int (zI h7)]) :: (sp, oB 22 [.int (zI p7), .int (zI q7)]) :: (cx, oB 23 [.ref cl7, va_rf al7, va_rf be7]) :: (it, oB 31 [.int (zI (((hq0 + ((d + 1) + 1)) % 17 : Nat) : Int)), .int (zI ((L.length - ((d + 1) + 1) : Nat) : Int)), .int (zI (((hq0 + (d + 1)) % 17 : Nat) : Int)), .ref dq]) :: (dq, oB 30 [.ref es, .int (zI (hq0 : Int)), .int (zI 0)]) :: (es, aR (gT X 10) 17 fq) :: Z) s H locs := hG
                        refine lv_topx (zI (rwI f9 (d + 1))) (rwI_z _ _) ?_
                        have hrg := rwI_R f9 (d + 1)
                        refine lv_aload hx hb dX0_judge_180 (lv_at hl 4 rfl) ?_
                        refine g_ci (va_runV (As := []) (rest := [.int (zI (rwI f9 (d + 1)))]) ⟨hx, hb, hml, hown, hts⟩ (metX23_isLost (h9 := h7) (by omega)) (cwV 0 hts (lw_V q2463 q2379 q2380 q152 q2381) rfl rfl rfl (by decide +kernel) ⟨Nat.le_of_ble_eq_true rfl, Nat.le_of_ble_eq_true rfl⟩) (g_preV hG (g_recv hG (hG.at 0 rfl) (ci := 21) rfl)) rfl rfl hl.1 rfl (lv_room (Nat.le_of_ble_eq_true rfl)) dX0_judge_182 ⟨by show _ ≤ 620; omega, by show _ ≤ 14200; omega⟩) hG (fun r_109 F_110 V_111 ws_ H locs hp hG => ?_)
                        obtain ⟨rfl, rfl, rfl, rfl⟩ := hp
                        have hG : gW X G2 V ((wk, oB 21 [.ref sp, .ref cx, .ref wa, .ref (ma r1), .ref (ra (anc (wFo (aWd a)) (n - (d + 1)) y1)), .int (zI h7)]) :: (sp, oB 22 [.int (zI p7), .int (zI q7)]) :: (cx, oB 23 [.ref cl7, va_rf al7, va_rf be7]) :: (it, oB 31 [.int (zI (((hq0 + ((d + 1) + 1)) % 17 : Nat) : Int)), .int (zI ((L.length - ((d + 1) + 1) : Nat) : Int)), .int (zI (((hq0 + (d + 1)) % 17 : Nat) : Int)), .ref dq]) :: (dq, oB 30 [.ref es, .int (zI (hq0 : Int)), .int (zI 0)]) :: (es, aR (gT X 10) 17 fq) :: Z) s H locs := hG
                        by_cases h3 : h7 = 3
                        · refine g_topz (y := 1) (if_pos h3) ?_
                          refine g_eq (tgt := 192) hx hb dX0_judge_185 (by decide) (by decide) (fun hq => ?_) (fun hq => ?_)
                          · exfalso; omega
                          · have hpo : pOf (wkF (aWd a) r1 y1 n (d + 1)) = -1 := if_pos (by have q : ((kHow (wkTo (aWd a) (wRk (aWd a) r1) (rKind (wRk (aWd a) r1)) y1 n (d + 1)) : Nat) : Int) = 3 := hk1.symm.trans h3; show kHow (wkTo (aWd a) (wRk (aWd a) r1) (rKind (wRk (aWd a) r1)) y1 n (d + 1)) = 3; omega)
                            refine lv_iconst (v := zI (-1)) hx hb dX0_judge_188 (by decide +kernel) ?_
                            refine lv_goto (tgt := 200) hx hb dX0_judge_189 (by decide) ?_
                            refine g_ceq (tgt := 206) hx hb dX0_judge_200 (by decide) (by omega) (fun h9e => ?_) (fun h9e => ?_)
                            · have hjd : jdP (aWd a) f9 r1 y1 n (d + 1) = false := decide_eq_false (fun q => q (h9e.trans hpo.symm))
                              refine lv_iinc (v := zI ((((d + 1) : Nat) : Int) + 1 : Int)) (lv' := [(10, .int (zI ((((d + 1) : Nat) : Int) + 1 : Int))), (12, .ref (ra (anc (wFo (aWd a)) (n - (d + 1)) y1))), (0, .ref x), (5, .ref (ma r1)), (7, .ref ro), (9, .ref wk), (11, .ref it)]) hx hb dX0_judge_206 hl (k := 5) rfl ((zI_add _ _).trans (congrArg zI (by omega))) (by decide) rfl (fun ls hl => ?_)
                              refine lv_goto (tgt := 134) hx hb dX0_judge_209 (by decide) ?_
                              have hl : lv_has ls 13 [(10, .int (zI (((d + 1) + 1 : Nat) : Int))), (12, .ref (ra (anc (wFo (aWd a)) (n - (d + 1)) y1))), (0, .ref x), (5, .ref (ma r1)), (7, .ref ro), (9, .ref wk), (11, .ref it)] := by exact hl
                              have hG : gW X G2 V ((cx, oB 23 [.ref cl7, va_rf al7, va_rf be7]) :: (wk, oB 21 [.ref sp, .ref cx, .ref wa, .ref (ma r1), .ref (ra (anc (wFo (aWd a)) (n - (d + 1)) y1)), .int (zI h7)]) :: (sp, oB 22 [.int (zI p7), .int (zI q7)]) :: (it, oB 31 [.int (zI (((hq0 + ((d + 1) + 1)) % 17 : Nat) : Int)), .int (zI ((L.length - ((d + 1) + 1) : Nat) : Int)), .int (zI (((hq0 + (d + 1)) % 17 : Nat) : Int)), .ref dq]) :: (dq, oB 30 [.ref es, .int (zI (hq0 : Int)), .int (zI 0)]) :: (es, aR (gT X 10) 17 fq) :: Z) s _ _ := hG.pull 2 rfl rfl
                              have hG : gW X G2 V ((sp, oB 22 [.int (zI p7), .int (zI q7)]) :: (cx, oB 23 [.ref cl7, va_rf al7, va_rf be7]) :: (wk, oB 21 [.ref sp, .ref cx, .ref wa, .ref (ma r1), .ref (ra (anc (wFo (aWd a)) (n - (d + 1)) y1)), .int (zI h7)]) :: (it, oB 31 [.int (zI (((hq0 + ((d + 1) + 1)) % 17 : Nat) : Int)), .int (zI ((L.length - ((d + 1) + 1) : Nat) : Int)), .int (zI (((hq0 + (d + 1)) % 17 : Nat) : Int)), .ref dq]) :: (dq, oB 30 [.ref es, .int (zI (hq0 : Int)), .int (zI 0)]) :: (es, aR (gT X 10) 17 fq) :: Z) s _ _ := hG.pull 2 rfl rfl
                              have hG : gW X G2 V ((wk, oB 21 [.ref sp, .ref cx, .ref wa, .ref (ma r1), .ref (ra (anc (wFo (aWd a)) (n - (d + 1)) y1)), .int (zI h7)]) :: (sp, oB 22 [.int (zI p7), .int (zI q7)]) :: (cx, oB 23 [.ref cl7, va_rf al7, va_rf be7]) :: (it, oB 31 [.int (zI (((hq0 + ((d + 1) + 1)) % 17 : Nat) : Int)), .int (zI ((L.length - ((d + 1) + 1) : Nat) : Int)), .int (zI (((hq0 + (d + 1)) % 17 : Nat) : Int)), .ref dq]) :: (dq, oB 30 [.ref es, .int (zI (hq0 : Int)), .int (zI 0)]) :: (es, aR (gT X 10) 17 fq) :: Z) s _ _ := hG.pull 2 rfl rfl
                              have hG : gW X G2 V ((es, aR (gT X 10) 17 fq) :: (wk, oB 21 [.ref sp, .ref cx, .ref wa, .ref (ma r1), .ref (ra (anc (wFo (aWd a)) (n - (d + 1)) y1)), .int (zI h7)]) :: (sp, oB 22 [.int (zI p7), .int (zI q7)]) :: (cx, oB 23 [.ref cl7, va_rf al7, va_rf be7]) :: (it, oB 31 [.int (zI (((hq0 + ((d + 1) + 1)) % 17 : Nat) : Int)), .int (zI ((L.length - ((d + 1) + 1) : Nat) : Int)), .int (zI (((hq0 + (d + 1)) % 17 : Nat) : Int)), .ref dq]) :: (dq, oB 30 [.ref es, .int (zI (hq0 : Int)), .int (zI 0)]) :: Z) s _ _ := hG.pull 5 rfl rfl
                              have hG : gW X G2 V ((dq, oB 30 [.ref es, .int (zI (hq0 : Int)), .int (zI 0)]) :: (es, aR (gT X 10) 17 fq) :: (wk, oB 21 [.ref sp, .ref cx, .ref wa, .ref (ma r1), .ref (ra (anc (wFo (aWd a)) (n - (d + 1)) y1)), .int (zI h7)]) :: (sp, oB 22 [.int (zI p7), .int (zI q7)]) :: (cx, oB 23 [.ref cl7, va_rf al7, va_rf be7]) :: (it, oB 31 [.int (zI (((hq0 + ((d + 1) + 1)) % 17 : Nat) : Int)), .int (zI ((L.length - ((d + 1) + 1) : Nat) : Int)), .int (zI (((hq0 + (d + 1)) % 17 : Nat) : Int)), .ref dq]) :: Z) s _ _ := hG.pull 5 rfl rfl
                              have hG : gW X G2 V ((it, oB 31 [.int (zI (((hq0 + ((d + 1) + 1)) % 17 : Nat) : Int)), .int (zI ((L.length - ((d + 1) + 1) : Nat) : Int)), .int (zI (((hq0 + (d + 1)) % 17 : Nat) : Int)), .ref dq]) :: (dq, oB 30 [.ref es, .int (zI (hq0 : Int)), .int (zI 0)]) :: (es, aR (gT X 10) 17 fq) :: (wk, oB 21 [.ref sp, .ref cx, .ref wa, .ref (ma r1), .ref (ra (anc (wFo (aWd a)) (n - (d + 1)) y1)), .int (zI h7)]) :: (sp, oB 22 [.int (zI p7), .int (zI q7)]) :: (cx, oB 23 [.ref cl7, va_rf al7, va_rf be7]) :: Z) s _ _ := hG.pull 5 rfl rfl
                              have r5 : n + 1 - ((d + 1) + 1) < mz := by omega
                              exact ihA (n + 1 - ((d + 1) + 1)) r5 H locs ls _ _ (room_U hroom r5) ⟨((d + 1) + 1), G2, h7, p7, q7, cl7, al7, be7, (anc (wFo (aWd a)) (n - (d + 1)) y1), _, ⟨by omega, rfl, hle_F1.tr hle_G2, rfl, by rw [Nat.add_sub_cancel]; exact hk7, fun i hi => by by_cases e : i = (d + 1); (rw [e]; exact hjd); exact hno i (by omega)⟩, hG, (lv_sub hl [2, 3, 4, 5, 0, 6] rfl)⟩
                            · have hjd : jdP (aWd a) f9 r1 y1 n (d + 1) = true := decide_eq_true (fun q => h9e (q.trans hpo))
                              have hfs : fsB (jdP (aWd a) f9 r1 y1 n) (n + 1) 0 = some (d + 1) := fsB_some hjd _ _ (Nat.zero_le _) (by omega) (fun i _ h2 => hno i h2)
                              refine lv_iload hx hb dX0_judge_203 (lv_at hl 5 rfl) ?_
                              have hG : gW X G2 V ((wk, oB 21 [.ref sp, .ref cx, .ref wa, .ref (ma r1), .ref (ra (anc (wFo (aWd a)) (n - (d + 1)) y1)), .int (zI h7)]) :: (sp, oB 22 [.int (zI p7), .int (zI q7)]) :: (cx, oB 23 [.ref cl7, va_rf al7, va_rf be7]) :: (dq, oB 30 [.ref es, .int (zI (hq0 : Int)), .int (zI 0)]) :: (es, aR (gT X 10) 17 fq) :: Z) s _ _ := hG.drop 3 rfl rfl
                              have hG : gW X G2 V ((wk, oB 21 [.ref sp, .ref cx, .ref wa, .ref (ma r1), .ref (ra (anc (wFo (aWd a)) (n - (d + 1)) y1)), .int (zI h7)]) :: (sp, oB 22 [.int (zI p7), .int (zI q7)]) :: (cx, oB 23 [.ref cl7, va_rf al7, va_rf be7]) :: (es, aR (gT X 10) 17 fq) :: Z) s _ _ := hG.drop 3 rfl rfl
                              have hG : gW X G2 V ((wk, oB 21 [.ref sp, .ref cx, .ref wa, .ref (ma r1), .ref (ra (anc (wFo (aWd a)) (n - (d + 1)) y1)), .int (zI h7)]) :: (sp, oB 22 [.int (zI p7), .int (zI q7)]) :: (cx, oB 23 [.ref cl7, va_rf al7, va_rf be7]) :: Z) s _ _ := hG.drop 3 rfl rfl
                              have hG : gW X G2 V ((sp, oB 22 [.int (zI p7), .int (zI q7)]) :: (cx, oB 23 [.ref cl7, va_rf al7, va_rf be7]) :: Z) s _ _ := hG.drop 0 rfl rfl
                              have hG : gW X G2 V ((cx, oB 23 [.ref cl7, va_rf al7, va_rf be7]) :: Z) s _ _ := hG.drop 0 rfl rfl
                              have hG : gW X G2 V (Z) s _ _ := hG.drop 0 rfl rfl
                              refine vx_ret ?_
                              exact g_iret hx hb hr hlocks hG (by have e9 : opJudge a (v1 : Int) (r1 : Int) (y1 : Int) = ((((d + 1) : Nat) : Int), a) := (by rw [opJudge_s hsvv hb9 (by omega) (by omega) (by omega), if_neg hnb, hfs]; rfl); rw [e9]; exact ⟨(hle_F1.tr hle_G2), rfl, ((hS.mono (hle_F1.tr hle_G2))).ex, rfl⟩) ⟨by show _ ≤ 620; omega, by show _ ≤ 14200; omega⟩ dX0_judge_205
                        · refine g_topz (y := 0) (if_neg h3) ?_
                          have hn3 : kHow (wkTo (aWd a) (wRk (aWd a) r1) (rKind (wRk (aWd a) r1)) y1 n (d + 1)) ≠ 3 := fun q => h3 (by rw [hk1, q]; rfl)
                          have hp5 := hk5 hn3
                          have hlt9 := hk4
                          have hpR : -2147483648 ≤ p7 ∧ p7 < 2147483648 := by have := (hK.tx (r := kL (wkTo (aWd a) (wRk (aWd a) r1) (rKind (wRk (aWd a) r1)) y1 n (d + 1))) hk4.1).1; have q := hp5.2.1; have q2 := hp5.2.2.2.1; omega
                          refine g_eq (tgt := 192) hx hb dX0_judge_185 (by decide) (by decide) (fun hq => ?_) (fun hq => ?_)
                          · have hpo : pOf (wkF (aWd a) r1 y1 n (d + 1)) = p7 := (if_neg hn3).trans hp5.2.1.symm
                            refine lv_aload hx hb dX0_judge_192 (lv_at hl 4 rfl) ?_
                            refine g_get (ci := 21) hx hb hts in_X23 hown hG (hG.at 0 rfl) rfl 0 (Nat.le_of_ble_eq_true rfl) (hts _ q2331) (fun _ h9 => h9) rfl dX0_judge_194 ?_
                            refine g_get (ci := 22) hx hb hts in_X24 hown hG (hG.at 1 rfl) rfl 0 (Nat.le_of_ble_eq_true rfl) (hts _ q2300) (fun _ h9 => h9) rfl dX0_judge_197 ?_
                            refine g_ceq (tgt := 206) hx hb dX0_judge_200 (by decide) (by omega) (fun h9e => ?_) (fun h9e => ?_)
                            · have hjd : jdP (aWd a) f9 r1 y1 n (d + 1) = false := decide_eq_false (fun q => q (h9e.trans hpo.symm))
                              refine lv_iinc (v := zI ((((d + 1) : Nat) : Int) + 1 : Int)) (lv' := [(10, .int (zI ((((d + 1) : Nat) : Int) + 1 : Int))), (12, .ref (ra (anc (wFo (aWd a)) (n - (d + 1)) y1))), (0, .ref x), (5, .ref (ma r1)), (7, .ref ro), (9, .ref wk), (11, .ref it)]) hx hb dX0_judge_206 hl (k := 5) rfl ((zI_add _ _).trans (congrArg zI (by omega))) (by decide) rfl (fun ls hl => ?_)
                              refine lv_goto (tgt := 134) hx hb dX0_judge_209 (by decide) ?_
                              have hl : lv_has ls 13 [(10, .int (zI (((d + 1) + 1 : Nat) : Int))), (12, .ref (ra (anc (wFo (aWd a)) (n - (d + 1)) y1))), (0, .ref x), (5, .ref (ma r1)), (7, .ref ro), (9, .ref wk), (11, .ref it)] := by exact hl
                              have hG : gW X G2 V ((cx, oB 23 [.ref cl7, va_rf al7, va_rf be7]) :: (wk, oB 21 [.ref sp, .ref cx, .ref wa, .ref (ma r1), .ref (ra (anc (wFo (aWd a)) (n - (d + 1)) y1)), .int (zI h7)]) :: (sp, oB 22 [.int (zI p7), .int (zI q7)]) :: (it, oB 31 [.int (zI (((hq0 + ((d + 1) + 1)) % 17 : Nat) : Int)), .int (zI ((L.length - ((d + 1) + 1) : Nat) : Int)), .int (zI (((hq0 + (d + 1)) % 17 : Nat) : Int)), .ref dq]) :: (dq, oB 30 [.ref es, .int (zI (hq0 : Int)), .int (zI 0)]) :: (es, aR (gT X 10) 17 fq) :: Z) s _ _ := hG.pull 2 rfl rfl
                              have hG : gW X G2 V ((sp, oB 22 [.int (zI p7), .int (zI q7)]) :: (cx, oB 23 [.ref cl7, va_rf al7, va_rf be7]) :: (wk, oB 21 [.ref sp, .ref cx, .ref wa, .ref (ma r1), .ref (ra (anc (wFo (aWd a)) (n - (d + 1)) y1)), .int (zI h7)]) :: (it, oB 31 [.int (zI (((hq0 + ((d + 1) + 1)) % 17 : Nat) : Int)), .int (zI ((L.length - ((d + 1) + 1) : Nat) : Int)), .int (zI (((hq0 + (d + 1)) % 17 : Nat) : Int)), .ref dq]) :: (dq, oB 30 [.ref es, .int (zI (hq0 : Int)), .int (zI 0)]) :: (es, aR (gT X 10) 17 fq) :: Z) s _ _ := hG.pull 2 rfl rfl
                              have hG : gW X G2 V ((wk, oB 21 [.ref sp, .ref cx, .ref wa, .ref (ma r1), .ref (ra (anc (wFo (aWd a)) (n - (d + 1)) y1)), .int (zI h7)]) :: (sp, oB 22 [.int (zI p7), .int (zI q7)]) :: (cx, oB 23 [.ref cl7, va_rf al7, va_rf be7]) :: (it, oB 31 [.int (zI (((hq0 + ((d + 1) + 1)) % 17 : Nat) : Int)), .int (zI ((L.length - ((d + 1) + 1) : Nat) : Int)), .int (zI (((hq0 + (d + 1)) % 17 : Nat) : Int)), .ref dq]) :: (dq, oB 30 [.ref es, .int (zI (hq0 : Int)), .int (zI 0)]) :: (es, aR (gT X 10) 17 fq) :: Z) s _ _ := hG.pull 2 rfl rfl
                              have hG : gW X G2 V ((es, aR (gT X 10) 17 fq) :: (wk, oB 21 [.ref sp, .ref cx, .ref wa, .ref (ma r1), .ref (ra (anc (wFo (aWd a)) (n - (d + 1)) y1)), .int (zI h7)]) :: (sp, oB 22 [.int (zI p7), .int (zI q7)]) :: (cx, oB 23 [.ref cl7, va_rf al7, va_rf be7]) :: (it, oB 31 [.int (zI (((hq0 + ((d + 1) + 1)) % 17 : Nat) : Int)), .int (zI ((L.length - ((d + 1) + 1) : Nat) : Int)), .int (zI (((hq0 + (d + 1)) % 17 : Nat) : Int)), .ref dq]) :: (dq, oB 30 [.ref es, .int (zI (hq0 : Int)), .int (zI 0)]) :: Z) s _ _ := hG.pull 5 rfl rfl
                              have hG : gW X G2 V ((dq, oB 30 [.ref es, .int (zI (hq0 : Int)), .int (zI 0)]) :: (es, aR (gT X 10) 17 fq) :: (wk, oB 21 [.ref sp, .ref cx, .ref wa, .ref (ma r1), .ref (ra (anc (wFo (aWd a)) (n - (d + 1)) y1)), .int (zI h7)]) :: (sp, oB 22 [.int (zI p7), .int (zI q7)]) :: (cx, oB 23 [.ref cl7, va_rf al7, va_rf be7]) :: (it, oB 31 [.int (zI (((hq0 + ((d + 1) + 1)) % 17 : Nat) : Int)), .int (zI ((L.length - ((d + 1) + 1) : Nat) : Int)), .int (zI (((hq0 + (d + 1)) % 17 : Nat) : Int)), .ref dq]) :: Z) s _ _ := hG.pull 5 rfl rfl
                              have hG : gW X G2 V ((it, oB 31 [.int (zI (((hq0 + ((d + 1) + 1)) % 17 : Nat) : Int)), .int (zI ((L.length - ((d + 1) + 1) : Nat) : Int)), .int (zI (((hq0 + (d + 1)) % 17 : Nat) : Int)), .ref dq]) :: (dq, oB 30 [.ref es, .int (zI (hq0 : Int)), .int (zI 0)]) :: (es, aR (gT X 10) 17 fq) :: (wk, oB 21 [.ref sp, .ref cx, .ref wa, .ref (ma r1), .ref (ra (anc (wFo (aWd a)) (n - (d + 1)) y1)), .int (zI h7)]) :: (sp, oB 22 [.int (zI p7), .int (zI q7)]) :: (cx, oB 23 [.ref cl7, va_rf al7, va_rf be7]) :: Z) s _ _ := hG.pull 5 rfl rfl
                              have r5 : n + 1 - ((d + 1) + 1) < mz := by omega
                              exact ihA (n + 1 - ((d + 1) + 1)) r5 H locs ls _ _ (room_U hroom r5) ⟨((d + 1) + 1), G2, h7, p7, q7, cl7, al7, be7, (anc (wFo (aWd a)) (n - (d + 1)) y1), _, ⟨by omega, rfl, hle_F1.tr hle_G2, rfl, by rw [Nat.add_sub_cancel]; exact hk7, fun i hi => by by_cases e : i = (d + 1); (rw [e]; exact hjd); exact hno i (by omega)⟩, hG, (lv_sub hl [2, 3, 4, 5, 0, 6] rfl)⟩
                            · have hjd : jdP (aWd a) f9 r1 y1 n (d + 1) = true := decide_eq_true (fun q => h9e (q.trans hpo))
                              have hfs : fsB (jdP (aWd a) f9 r1 y1 n) (n + 1) 0 = some (d + 1) := fsB_some hjd _ _ (Nat.zero_le _) (by omega) (fun i _ h2 => hno i h2)
                              refine lv_iload hx hb dX0_judge_203 (lv_at hl 5 rfl) ?_
                              have hG : gW X G2 V ((wk, oB 21 [.ref sp, .ref cx, .ref wa, .ref (ma r1), .ref (ra (anc (wFo (aWd a)) (n - (d + 1)) y1)), .int (zI h7)]) :: (sp, oB 22 [.int (zI p7), .int (zI q7)]) :: (cx, oB 23 [.ref cl7, va_rf al7, va_rf be7]) :: (dq, oB 30 [.ref es, .int (zI (hq0 : Int)), .int (zI 0)]) :: (es, aR (gT X 10) 17 fq) :: Z) s _ _ := hG.drop 3 rfl rfl
                              have hG : gW X G2 V ((wk, oB 21 [.ref sp, .ref cx, .ref wa, .ref (ma r1), .ref (ra (anc (wFo (aWd a)) (n - (d + 1)) y1)), .int (zI h7)]) :: (sp, oB 22 [.int (zI p7), .int (zI q7)]) :: (cx, oB 23 [.ref cl7, va_rf al7, va_rf be7]) :: (es, aR (gT X 10) 17 fq) :: Z) s _ _ := hG.drop 3 rfl rfl
                              have hG : gW X G2 V ((wk, oB 21 [.ref sp, .ref cx, .ref wa, .ref (ma r1), .ref (ra (anc (wFo (aWd a)) (n - (d + 1)) y1)), .int (zI h7)]) :: (sp, oB 22 [.int (zI p7), .int (zI q7)]) :: (cx, oB 23 [.ref cl7, va_rf al7, va_rf be7]) :: Z) s _ _ := hG.drop 3 rfl rfl
                              have hG : gW X G2 V ((sp, oB 22 [.int (zI p7), .int (zI q7)]) :: (cx, oB 23 [.ref cl7, va_rf al7, va_rf be7]) :: Z) s _ _ := hG.drop 0 rfl rfl
                              have hG : gW X G2 V ((cx, oB 23 [.ref cl7, va_rf al7, va_rf be7]) :: Z) s _ _ := hG.drop 0 rfl rfl
                              have hG : gW X G2 V (Z) s _ _ := hG.drop 0 rfl rfl
                              refine vx_ret ?_
                              exact g_iret hx hb hr hlocks hG (by have e9 : opJudge a (v1 : Int) (r1 : Int) (y1 : Int) = ((((d + 1) : Nat) : Int), a) := (by rw [opJudge_s hsvv hb9 (by omega) (by omega) (by omega), if_neg hnb, hfs]; rfl); rw [e9]; exact ⟨(hle_F1.tr hle_G2), rfl, ((hS.mono (hle_F1.tr hle_G2))).ex, rfl⟩) ⟨by show _ ≤ 620; omega, by show _ ≤ 14200; omega⟩ dX0_judge_205
                          · exfalso; omega
                  · refine g_topz (y := 0) (by rw [decide_eq_false (by omega)]; rfl) ?_
                    have hjn : j = n + 1 := by omega
                    have hfs : fsB (jdP (aWd a) f9 r1 y1 n) (n + 1) 0 = none := fsB_none _ _ (fun i _ h2 => hno i (by omega))
                    refine g_eq (tgt := 212) hx hb dX0_judge_141 (by decide) (by decide) (fun hq => ?_) (fun hq => ?_)
                    · refine lv_iconst (v := zI (-1)) hx hb dX0_judge_212 (by decide +kernel) ?_
                      have hG : gW X F1 V ((dq, oB 30 [.ref es, .int (zI (hq0 : Int)), .int (zI 0)]) :: (es, aR (gT X 10) 17 fq) :: (wk, oB 21 [.ref sp, .ref cx, .ref wa, .ref (ma r1), .ref (ra t8), .int (zI h8)]) :: (sp, oB 22 [.int (zI p8), .int (zI q8)]) :: (cx, oB 23 [.ref cl8, va_rf al8, va_rf be8]) :: Z) s _ _ := hG.drop 0 rfl rfl
                      have hG : gW X F1 V ((es, aR (gT X 10) 17 fq) :: (wk, oB 21 [.ref sp, .ref cx, .ref wa, .ref (ma r1), .ref (ra t8), .int (zI h8)]) :: (sp, oB 22 [.int (zI p8), .int (zI q8)]) :: (cx, oB 23 [.ref cl8, va_rf al8, va_rf be8]) :: Z) s _ _ := hG.drop 0 rfl rfl
                      have hG : gW X F1 V ((wk, oB 21 [.ref sp, .ref cx, .ref wa, .ref (ma r1), .ref (ra t8), .int (zI h8)]) :: (sp, oB 22 [.int (zI p8), .int (zI q8)]) :: (cx, oB 23 [.ref cl8, va_rf al8, va_rf be8]) :: Z) s _ _ := hG.drop 0 rfl rfl
                      have hG : gW X F1 V ((sp, oB 22 [.int (zI p8), .int (zI q8)]) :: (cx, oB 23 [.ref cl8, va_rf al8, va_rf be8]) :: Z) s _ _ := hG.drop 0 rfl rfl
                      have hG : gW X F1 V ((cx, oB 23 [.ref cl8, va_rf al8, va_rf be8]) :: Z) s _ _ := hG.drop 0 rfl rfl
                      have hG : gW X F1 V (Z) s _ _ := hG.drop 0 rfl rfl
                      refine vx_ret ?_
                      exact g_iret hx hb hr hlocks hG (by have e9 : opJudge a (v1 : Int) (r1 : Int) (y1 : Int) = (-1, a) := (by rw [opJudge_s hsvv hb9 (by omega) (by omega) (by omega), if_neg hnb, hfs]; rfl); rw [e9]; exact ⟨hle_F1, rfl, ((hS.mono hle_F1)).ex, rfl⟩) ⟨by show _ ≤ 620; omega, by show _ ≤ 14200; omega⟩ dX0_judge_213
                    · exfalso; omega
      · refine g_xr (vx_runV (As := [.int (zI y)]) (rest := []) ⟨hx, hb, hml, hown, hts⟩ (metX0_revision_f hS hA (by omega)) (cwV 1 hts (lw_V q737 q739 qs4 q87 q740) rfl rfl rfl (by decide +kernel) ⟨Nat.le_of_ble_eq_true rfl, Nat.le_of_ble_eq_true rfl⟩) (g_preV hG (g_recv hG (hG.vo hx0) (ci := 0) rfl)) rfl rfl hl.1 rfl (lv_room (Nat.le_of_ble_eq_true rfl)) dX0_judge_16 ⟨by show _ ≤ 620; omega, by show _ ≤ 14200; omega⟩) hG (fun E9 ce9 q9 Fx_115 Vx_116 ws_ H locs hpx hG hce => ?_) (fun r_112 F_113 V_114 ws_ H locs hp hG => ?_)
        · obtain ⟨rfl, hle_Fx_115, hq9, rfl, rfl⟩ := hpx
          have hG : gW X Fx_115 V (Z) s H locs := hG
          refine g_catch (name := "LineRemarks$Refused") hown htab [] ⟨0, 205, 214, 21⟩ [⟨206, 213, 214, 21⟩] rfl (fun z9 hz9 => absurd hz9 List.not_mem_nil) (by decide) (by decide) (hts _ q410) (hG.1.2.1.1 _ qn498) hce ?_
          refine lv_astore (lv' := [(4, .ref q9), (5, .ref (ma r1)), (0, .ref x), (1, .int (zI (v1 : Int))), (2, .int (zI (r1 : Int))), (3, .int (zI y))]) hx hb dX0_judge_214 hl (by decide) rfl (fun ls hl => ?_)
          refine lv_aload_n hx hb dX0_judge_216 rfl (lv_at hl 2 rfl) ?_
          refine lv_aload hx hb dX0_judge_217 (lv_at hl 0 rfl) ?_
          refine g_ci (va_runV (As := [.ref q9]) (rest := []) ⟨hx, hb, hml, hown, hts⟩ (metX0_refused (k := 1) (hS.mono hle_Fx_115) hA hq9 (by decide)) (cwV 1 hts (lw_V q589 q591 qs2 q87 q592) rfl rfl rfl (by decide +kernel) ⟨Nat.le_of_ble_eq_true rfl, Nat.le_of_ble_eq_true rfl⟩) (g_preV hG (g_recv hG (hG.vo hx0) (ci := 0) rfl)) rfl rfl hl.1 rfl (lv_room (Nat.le_of_ble_eq_true rfl)) dX0_judge_219 ⟨by show _ ≤ 620; omega, by show _ ≤ 14200; omega⟩) hG (fun r_117 F_118 V_119 ws_ H locs hp hG => ?_)
          obtain ⟨rfl, rfl, hS9, rfl⟩ := hp
          have hG : gW X Fx_115 V_119 (Z) s H locs := hG
          refine lv_bipush (v := zI 10) hx hb dX0_judge_222 (by decide +kernel) ?_
          refine g_isub hx hb dX0_judge_224 ?_
          refine vx_ret ?_
          exact g_iret hx hb hr hlocks hG (by have e9 : opJudge a (v1 : Int) (r1 : Int) y = aNoT a 1 := (by unfold opJudge; rw [if_pos (by omega)]; first | done | rfl); rw [e9]; exact ⟨hle_Fx_115, rfl, hS9.ex, rfl⟩) ⟨by show _ ≤ 620; omega, by show _ ≤ 14200; omega⟩ dX0_judge_225
        exact hp.elim
    · refine g_xr (vx_runV (As := [.int (zI r)]) (rest := []) ⟨hx, hb, hml, hown, hts⟩ (metX0_told_f hS hA (by omega)) (cwV 1 hts (lw_V q700 q702 qs3 q87 q703) rfl rfl rfl (by decide +kernel) ⟨Nat.le_of_ble_eq_true rfl, Nat.le_of_ble_eq_true rfl⟩) (g_preV hG (g_recv hG (hG.vo hx0) (ci := 0) rfl)) rfl rfl hl.1 rfl (lv_room (Nat.le_of_ble_eq_true rfl)) dX0_judge_9 ⟨by show _ ≤ 620; omega, by show _ ≤ 14200; omega⟩) hG (fun E9 ce9 q9 Fx_123 Vx_124 ws_ H locs hpx hG hce => ?_) (fun r_120 F_121 V_122 ws_ H locs hp hG => ?_)
      · obtain ⟨rfl, hle_Fx_123, hq9, rfl, rfl⟩ := hpx
        have hG : gW X Fx_123 V (Z) s H locs := hG
        refine g_catch (name := "LineRemarks$Refused") hown htab [] ⟨0, 205, 214, 21⟩ [⟨206, 213, 214, 21⟩] rfl (fun z9 hz9 => absurd hz9 List.not_mem_nil) (by decide) (by decide) (hts _ q410) (hG.1.2.1.1 _ qn498) hce ?_
        refine lv_astore (lv' := [(4, .ref q9), (0, .ref x), (1, .int (zI (v1 : Int))), (2, .int (zI r)), (3, .int (zI y))]) hx hb dX0_judge_214 hl (by decide) rfl (fun ls hl => ?_)
        refine lv_aload_n hx hb dX0_judge_216 rfl (lv_at hl 1 rfl) ?_
        refine lv_aload hx hb dX0_judge_217 (lv_at hl 0 rfl) ?_
        refine g_ci (va_runV (As := [.ref q9]) (rest := []) ⟨hx, hb, hml, hown, hts⟩ (metX0_refused (k := 1) (hS.mono hle_Fx_123) hA hq9 (by decide)) (cwV 1 hts (lw_V q589 q591 qs2 q87 q592) rfl rfl rfl (by decide +kernel) ⟨Nat.le_of_ble_eq_true rfl, Nat.le_of_ble_eq_true rfl⟩) (g_preV hG (g_recv hG (hG.vo hx0) (ci := 0) rfl)) rfl rfl hl.1 rfl (lv_room (Nat.le_of_ble_eq_true rfl)) dX0_judge_219 ⟨by show _ ≤ 620; omega, by show _ ≤ 14200; omega⟩) hG (fun r_125 F_126 V_127 ws_ H locs hp hG => ?_)
        obtain ⟨rfl, rfl, hS9, rfl⟩ := hp
        have hG : gW X Fx_123 V_127 (Z) s H locs := hG
        refine lv_bipush (v := zI 10) hx hb dX0_judge_222 (by decide +kernel) ?_
        refine g_isub hx hb dX0_judge_224 ?_
        refine vx_ret ?_
        exact g_iret hx hb hr hlocks hG (by have e9 : opJudge a (v1 : Int) r y = aNoT a 1 := (by unfold opJudge; rw [if_pos (by omega)]; first | done | rfl); rw [e9]; exact ⟨hle_Fx_123, rfl, hS9.ex, rfl⟩) ⟨by show _ ≤ 620; omega, by show _ ≤ 14200; omega⟩ dX0_judge_225
      exact hp.elim
  · refine g_xr (vx_runVX (As := [.int (zI v)]) (rest := []) ⟨hx, hb, hml, hown, hts⟩ (metX0_shelf_f hS hA hst (by omega)) (vx_cwVW 1 hts (lw_VW q411 q413 qs0 q87 q414) rfl rfl rfl (by decide +kernel) ⟨Nat.le_of_ble_eq_true rfl, Nat.le_of_ble_eq_true rfl⟩) (g_preV hG (g_recv hG (hG.vo hx0) (ci := 0) rfl)) rfl rfl hl.1 rfl (lv_room (Nat.le_of_ble_eq_true rfl)) dX0_judge_2 ⟨by show _ ≤ 620; omega, by show _ ≤ 14200; omega⟩) hG (fun E9 ce9 q9 Fx_131 Vx_132 ws_ H locs hpx hG hce => ?_) (fun r_128 F_129 V_130 ws_ H locs hp hG => ?_)
    · obtain ⟨rfl, hle_Fx_131, hq9, rfl, rfl⟩ := hpx
      have hG : gW X Fx_131 V (Z) s H locs := hG
      refine g_catch (name := "LineRemarks$Refused") hown htab [] ⟨0, 205, 214, 21⟩ [⟨206, 213, 214, 21⟩] rfl (fun z9 hz9 => absurd hz9 List.not_mem_nil) (by decide) (by decide) (hts _ q410) (hG.1.2.1.1 _ qn498) hce ?_
      refine lv_astore (lv' := [(4, .ref q9), (0, .ref x), (1, .int (zI v)), (2, .int (zI r)), (3, .int (zI y))]) hx hb dX0_judge_214 hl (by decide) rfl (fun ls hl => ?_)
      refine lv_aload_n hx hb dX0_judge_216 rfl (lv_at hl 1 rfl) ?_
      refine lv_aload hx hb dX0_judge_217 (lv_at hl 0 rfl) ?_
      refine g_ci (va_runV (As := [.ref q9]) (rest := []) ⟨hx, hb, hml, hown, hts⟩ (metX0_refused (k := 1) (hS.mono hle_Fx_131) hA hq9 (by decide)) (cwV 1 hts (lw_V q589 q591 qs2 q87 q592) rfl rfl rfl (by decide +kernel) ⟨Nat.le_of_ble_eq_true rfl, Nat.le_of_ble_eq_true rfl⟩) (g_preV hG (g_recv hG (hG.vo hx0) (ci := 0) rfl)) rfl rfl hl.1 rfl (lv_room (Nat.le_of_ble_eq_true rfl)) dX0_judge_219 ⟨by show _ ≤ 620; omega, by show _ ≤ 14200; omega⟩) hG (fun r_133 F_134 V_135 ws_ H locs hp hG => ?_)
      obtain ⟨rfl, rfl, hS9, rfl⟩ := hp
      have hG : gW X Fx_131 V_135 (Z) s H locs := hG
      refine lv_bipush (v := zI 10) hx hb dX0_judge_222 (by decide +kernel) ?_
      refine g_isub hx hb dX0_judge_224 ?_
      refine vx_ret ?_
      exact g_iret hx hb hr hlocks hG (by have e9 : opJudge a v r y = aNoT a 1 := (by unfold opJudge; rw [if_pos (by omega)]; first | done | rfl); rw [e9]; exact ⟨hle_Fx_131, rfl, hS9.ex, rfl⟩) ⟨by show _ ≤ 620; omega, by show _ ≤ 14200; omega⟩ dX0_judge_225
    exact hp.elim

