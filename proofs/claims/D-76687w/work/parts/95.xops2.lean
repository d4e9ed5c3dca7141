set_option maxRecDepth 100000
theorem aTrunc_id (so : Nat) (v : Int64) : aTrunc so (aTrunc so v) = aTrunc so v := by
  unfold aTrunc
  by_cases h0 : so = 0
  · rw [if_pos h0, if_pos h0, Int32.toInt32_toInt64]; simp
  · rw [if_neg h0, if_neg h0]
    by_cases h1 : so = 1
    · rw [if_pos h1, if_pos h1, Int32.toInt32_toInt64]; simp
    · rw [if_neg h1, if_neg h1]
      by_cases h2 : so = 2
      · rw [if_pos h2, if_pos h2, Int32.toInt32_toInt64]
      · rw [if_neg h2, if_neg h2]
set_option maxHeartbeats 4000000 in
theorem metX0_set {l : Launch} {X : gX} {F : gF} {V : gV} {Z : va_W} {x sa rf tr tb kl wa rv rk st : Nat} {sh ra la ma : Nat → Nat} {im : Option Nat} {a : aS} (hS : xS X F V x a sa rf tr tb kl wa rv rk st sh ra la ma im) (hA : aOK a) (hst : l.stackTraces = false) {v i : Int} {y : Int64} (hrv : (-2147483648 ≤ v ∧ v < 2147483648)) (hri : (-2147483648 ≤ i ∧ i < 2147483648)) : vx_Met l yX0_set (wsW_ yX0_set cX0_set 7 (some FieldType.int) [(10, 17, 20, 123), (0, 33, 34, 21)]) ({ frames := 9, cells := 8, slots := 1200, locals := 10278 }) (gP X F V (Z) [.ref x, .int (zI v), .int (zI i), .long y]) (gQi X (fun u G U ws => gLe F G ∧ u = zI (opSet a v i y).1 ∧ xX X G U x (opSet a v i y).2 ∧ Z = ws)) (gXc X (fun _ _ _ _ _ => False)) 8 1200 (gA X) := by
  refine vx_Met.gH (by decide) (Nat.le_of_ble_eq_true rfl) ?_
  intro p e s m below meth c ls hx hb hr hts hown hlocks hml hin htab hG hl
  have hl : lv_has ls 7 [(0, .ref x), (1, .int (zI v)), (2, .int (zI i)), (3, .long y)] := hl
  have hSA := hS
  obtain ⟨hx0, ⟨fs9, hx1, hsh⟩, ⟨gr9, hx2, hgr⟩, hx3, hx4, hW, hx6, hx7⟩ := hSA
  have hSA := hS
  have hK := hA.w
  have hNN := hK.n
  have hMM := hK.m
  refine lv_aload_n hx hb dX0_set_0 rfl (lv_at hl 0 rfl) ?_
  refine lv_iload_n hx hb dX0_set_1 rfl (lv_at hl 1 rfl) ?_
  by_cases hv7 : 0 ≤ v ∧ v ≤ 7
  · obtain ⟨v1, rfl⟩ : ∃ z : Nat, v = (z : Int) := ⟨v.toNat, by omega⟩
    refine g_xr (vx_runVX (As := [.int (zI (v1 : Int))]) (rest := []) ⟨hx, hb, hml, hown, hts⟩ (metX0_shelf_t (v := v1) hS hA (by omega)) (vx_cwVW 1 hts (lw_VW q411 q413 qs0 q87 q414) rfl rfl rfl (by decide +kernel) ⟨Nat.le_of_ble_eq_true rfl, Nat.le_of_ble_eq_true rfl⟩) (g_preV hG (g_recv hG (hG.vo hx0) (ci := 0) rfl)) rfl rfl hl.1 rfl (lv_room (Nat.le_of_ble_eq_true rfl)) dX0_set_2 ⟨by show _ ≤ 8; omega, by show _ ≤ 1200; omega⟩) hG (fun E9 ce9 q9 Fx_4 Vx_5 ws_ H locs hpx hG hce => ?_) (fun r_1 F_2 V_3 ws_ H locs hp hG => ?_)
    · exact hpx.elim
    obtain ⟨rfl, rfl, rfl, rfl⟩ := hp
    have hG : gW X F V (Z) s H locs := hG
    have hx7v := hx7 v1 (by omega)
    have hok7 := hA.2.1 v1
    have hMk7 := hW.2.2.2.2.2
    rcases hsvv : aSv a v1 with _ | m1 | ⟨so1, n9, f9⟩
    · rw [hsvv] at hx7v
      have hsv : V (20 + v1) = some (sh v1, oB 3 [.null]) := hx7v
      refine g_xr (vx_runVX (As := []) (rest := []) ⟨hx, hb, hml, hown, hts⟩ (metX3_row_n (rj := 20 + v1) hsv) (vx_cwVW 0 hts (lw_VW q597 q598 q599 q101 q600) rfl rfl rfl (by decide +kernel) ⟨Nat.le_of_ble_eq_true rfl, Nat.le_of_ble_eq_true rfl⟩) (g_preV hG (g_recv hG (hG.vo hsv) (ci := 3) rfl)) rfl rfl hl.1 rfl (lv_room (Nat.le_of_ble_eq_true rfl)) dX0_set_5 ⟨by show _ ≤ 8; omega, by show _ ≤ 1200; omega⟩) hG (fun E9 ce9 q9 Fx_9 Vx_10 ws_ H locs hpx hG hce => ?_) (fun r_6 F_7 V_8 ws_ H locs hp hG => ?_)
      · obtain ⟨rfl, hle_Fx_9, hq9, rfl, rfl⟩ := hpx
        have hG : gW X Fx_9 V (Z) s H locs := hG
        refine g_catch (name := "LineRemarks$Refused") hown htab [⟨10, 17, 20, 123⟩] ⟨0, 33, 34, 21⟩ [] rfl (List.forall_mem_cons.mpr ⟨Or.inl (by decide), (fun z9 hz9 => absurd hz9 List.not_mem_nil)⟩) (by decide) (by decide) (hts _ q410) (hG.1.2.1.1 _ qn498) hce ?_
        refine lv_astore (lv' := [(5, .ref q9), (0, .ref x), (1, .int (zI (v1 : Int))), (2, .int (zI i)), (3, .long y)]) hx hb dX0_set_34 hl (by decide) rfl (fun ls hl => ?_)
        refine lv_aload_n hx hb dX0_set_36 rfl (lv_at hl 1 rfl) ?_
        refine lv_aload hx hb dX0_set_37 (lv_at hl 0 rfl) ?_
        refine g_ci (va_runV (As := [.ref q9]) (rest := []) ⟨hx, hb, hml, hown, hts⟩ (metX0_refused (k := 3) (hS.mono hle_Fx_9) hA hq9 (by decide)) (cwV 1 hts (lw_V q589 q591 qs2 q87 q592) rfl rfl rfl (by decide +kernel) ⟨Nat.le_of_ble_eq_true rfl, Nat.le_of_ble_eq_true rfl⟩) (g_preV hG (g_recv hG (hG.vo hx0) (ci := 0) rfl)) rfl rfl hl.1 rfl (lv_room (Nat.le_of_ble_eq_true rfl)) dX0_set_39 ⟨by show _ ≤ 8; omega, by show _ ≤ 1200; omega⟩) hG (fun r_11 F_12 V_13 ws_ H locs hp hG => ?_)
        obtain ⟨rfl, rfl, hS9, rfl⟩ := hp
        have hG : gW X Fx_9 V_13 (Z) s H locs := hG
        refine vx_ret ?_
        exact g_iret hx hb hr hlocks hG (by have e9 : opSet a (v1 : Int) i y = aNoR a 3 := (by unfold opSet; rw [if_neg (by omega), show aSv a ((v1 : Nat) : Int).toNat = none from hsvv]; first | done | rfl | (first | done | rfl)); rw [e9]; exact ⟨hle_Fx_9, rfl, hS9.ex, rfl⟩) ⟨by show _ ≤ 8; omega, by show _ ≤ 1200; omega⟩ dX0_set_42
      exact hp.elim
    · rw [hsvv] at hx7v hok7
      have hm1 : m1 < wM (aWd a) := hok7
      have hsv : V (20 + v1) = some (sh v1, oB 3 [.ref (ma m1)]) := hx7v
      have hrm1 := hMk7 m1 hm1
      have hkd1 := (hK.rk hm1).1
      refine g_xr (vx_runVX (As := []) (rest := []) ⟨hx, hb, hml, hown, hts⟩ (metX3_row_f (rj := 20 + v1) hsv (rm_ncR hkd1 hrm1) hst) (vx_cwVW 0 hts (lw_VW q597 q598 q599 q101 q600) rfl rfl rfl (by decide +kernel) ⟨Nat.le_of_ble_eq_true rfl, Nat.le_of_ble_eq_true rfl⟩) (g_preV hG (g_recv hG (hG.vo hsv) (ci := 3) rfl)) rfl rfl hl.1 rfl (lv_room (Nat.le_of_ble_eq_true rfl)) dX0_set_5 ⟨by show _ ≤ 8; omega, by show _ ≤ 1200; omega⟩) hG (fun E9 ce9 q9 Fx_17 Vx_18 ws_ H locs hpx hG hce => ?_) (fun r_14 F_15 V_16 ws_ H locs hp hG => ?_)
      · obtain ⟨rfl, hle_Fx_17, hq9, rfl, rfl⟩ := hpx
        have hG : gW X Fx_17 V (Z) s H locs := hG
        refine g_catch (name := "LineRemarks$Refused") hown htab [⟨10, 17, 20, 123⟩] ⟨0, 33, 34, 21⟩ [] rfl (List.forall_mem_cons.mpr ⟨Or.inl (by decide), (fun z9 hz9 => absurd hz9 List.not_mem_nil)⟩) (by decide) (by decide) (hts _ q410) (hG.1.2.1.1 _ qn498) hce ?_
        refine lv_astore (lv' := [(5, .ref q9), (0, .ref x), (1, .int (zI (v1 : Int))), (2, .int (zI i)), (3, .long y)]) hx hb dX0_set_34 hl (by decide) rfl (fun ls hl => ?_)
        refine lv_aload_n hx hb dX0_set_36 rfl (lv_at hl 1 rfl) ?_
        refine lv_aload hx hb dX0_set_37 (lv_at hl 0 rfl) ?_
        refine g_ci (va_runV (As := [.ref q9]) (rest := []) ⟨hx, hb, hml, hown, hts⟩ (metX0_refused (k := 2) (hS.mono hle_Fx_17) hA hq9 (by decide)) (cwV 1 hts (lw_V q589 q591 qs2 q87 q592) rfl rfl rfl (by decide +kernel) ⟨Nat.le_of_ble_eq_true rfl, Nat.le_of_ble_eq_true rfl⟩) (g_preV hG (g_recv hG (hG.vo hx0) (ci := 0) rfl)) rfl rfl hl.1 rfl (lv_room (Nat.le_of_ble_eq_true rfl)) dX0_set_39 ⟨by show _ ≤ 8; omega, by show _ ≤ 1200; omega⟩) hG (fun r_19 F_20 V_21 ws_ H locs hp hG => ?_)
        obtain ⟨rfl, rfl, hS9, rfl⟩ := hp
        have hG : gW X Fx_17 V_21 (Z) s H locs := hG
        refine vx_ret ?_
        exact g_iret hx hb hr hlocks hG (by have e9 : opSet a (v1 : Int) i y = aNoR a 2 := (by unfold opSet; rw [if_neg (by omega), show aSv a ((v1 : Nat) : Int).toNat = some (.inl m1) from hsvv]; first | done | rfl | (first | done | rfl)); rw [e9]; exact ⟨hle_Fx_17, rfl, hS9.ex, rfl⟩) ⟨by show _ ≤ 8; omega, by show _ ≤ 1200; omega⟩ dX0_set_42
      exact hp.elim
    · rw [hsvv] at hx7v hok7
      obtain ⟨ro, ar, hsv, hro, hVr, hfx⟩ := hx7v
      obtain ⟨hso, hn160⟩ : so1 ≤ 3 ∧ n9 ≤ 160 := hok7
      refine g_xr (vx_runVX (As := []) (rest := []) ⟨hx, hb, hml, hown, hts⟩ (metX3_row_t (rj := 20 + v1) hsv hso hro) (vx_cwVW 0 hts (lw_VW q597 q598 q599 q101 q600) rfl rfl rfl (by decide +kernel) ⟨Nat.le_of_ble_eq_true rfl, Nat.le_of_ble_eq_true rfl⟩) (g_preV hG (g_recv hG (hG.vo hsv) (ci := 3) rfl)) rfl rfl hl.1 rfl (lv_room (Nat.le_of_ble_eq_true rfl)) dX0_set_5 ⟨by show _ ≤ 8; omega, by show _ ≤ 1200; omega⟩) hG (fun E9 ce9 q9 Fx_25 Vx_26 ws_ H locs hpx hG hce => ?_) (fun r_22 F_23 V_24 ws_ H locs hp hG => ?_)
      · exact hpx.elim
      obtain ⟨rfl, rfl, rfl, rfl⟩ := hp
      have hG : gW X F V (Z) s H locs := hG
      by_cases hi9 : 0 ≤ i ∧ i < n9
      · obtain ⟨i1, rfl⟩ : ∃ z : Nat, i = (z : Int) := ⟨i.toNat, by omega⟩
        refine lv_astore (lv' := [(5, .ref ro), (0, .ref x), (1, .int (zI (v1 : Int))), (2, .int (zI (i1 : Int))), (3, .long y)]) hx hb dX0_set_8 hl (by decide) rfl (fun ls hl => ?_)
        refine lv_aload hx hb dX0_set_10 (lv_at hl 0 rfl) ?_
        refine lv_iload_n hx hb dX0_set_12 rfl (lv_at hl 3 rfl) ?_
        refine lv_lload_n hx hb dX0_set_13 rfl (lv_at hl 4 rfl) ?_
        refine g_cv (run_row_put_t hso hro hVr (i := i1) (by omega) ⟨hx, hb, hml, hown, hts⟩ q619 hG ⟨Nat.le_of_ble_eq_true rfl, Nat.le_of_ble_eq_true rfl⟩ hl.1 (lv_room (Nat.le_of_ble_eq_true rfl)) dX0_set_14 ⟨by show _ ≤ 8; omega, by show _ ≤ 1200; omega⟩) hG (fun F_28 V_29 ws_ H locs hp hG => ?_)
        obtain ⟨rfl, rfl, rfl⟩ := hp
        have hG : gW X F (va_up V (40 + v1) (some (ar, rwE X so1 n9 (va_up f9 i1 (aTrunc so1 y))))) (Z) s H locs := hG
        have hS1 := hS.setSh (i := v1) (U := (va_up V (40 + v1) (some (ar, rwE X so1 n9 (va_up f9 i1 (aTrunc so1 y)))))) (y := some (.inr (so1, n9, va_up f9 i1 (aTrunc so1 y)))) (by omega) (fun r9 h1 h2 => va_up_ne _ _ h2) ⟨ro, ar, (va_up_ne _ _ (by omega)).trans hsv, hro, va_up_self _ _ _, fun j hj => by by_cases h9 : j = i1; (rw [h9, va_up_self]; exact aTrunc_id _ _); (rw [va_up_ne _ _ h9]; exact hfx j hj)⟩
        refine lv_goto (tgt := 32) hx hb dX0_set_17 (by decide) ?_
        refine lv_iconst (v := zI 1) hx hb dX0_set_32 (by decide +kernel) ?_
        refine vx_ret ?_
        exact g_iret hx hb hr hlocks hG (by have e9 : opSet a (v1 : Int) (i1 : Int) y = (1, aSet a v1 (some (.inr (so1, n9, va_up f9 i1 (aTrunc so1 y))))) := (by unfold opSet; rw [if_neg (by omega), show aSv a ((v1 : Nat) : Int).toNat = some (.inr (so1, n9, f9)) from hsvv]; first | done | rfl | (show (if _ then _ else _) = _; rw [if_neg (by omega)]; first | done | rfl)); rw [e9]; exact ⟨(gLe.rfl (V := V)), rfl, (hS1).ex, rfl⟩) ⟨by show _ ≤ 8; omega, by show _ ≤ 1200; omega⟩ dX0_set_33
      · refine lv_astore (lv' := [(5, .ref ro), (0, .ref x), (1, .int (zI (v1 : Int))), (2, .int (zI i)), (3, .long y)]) hx hb dX0_set_8 hl (by decide) rfl (fun ls hl => ?_)
        refine lv_aload hx hb dX0_set_10 (lv_at hl 0 rfl) ?_
        refine lv_iload_n hx hb dX0_set_12 rfl (lv_at hl 3 rfl) ?_
        refine lv_lload_n hx hb dX0_set_13 rfl (lv_at hl 4 rfl) ?_
        refine g_xv (run_row_put_f hso hro hVr hst (by omega) ⟨hx, hb, hml, hown, hts⟩ q619 hG ⟨Nat.le_of_ble_eq_true rfl, Nat.le_of_ble_eq_true rfl⟩ hl.1 (lv_room (Nat.le_of_ble_eq_true rfl)) dX0_set_14 ⟨by show _ ≤ 8; omega, by show _ ≤ 1200; omega⟩) hG (fun E9 ce9 q9 Fx_33 Vx_34 ws_ H locs hpx hG hce => ?_) (fun F_31 V_32 ws_ H locs hp hG => ?_)
        · obtain ⟨rfl, rfl, rfl, rfl⟩ := hpx
          have hG : gW X F V (Z) s H locs := hG
          obtain ⟨qa, rfl⟩ : ∃ z, z = q9 := ⟨_, rfl⟩
          refine g_catch (name := "java/lang/ArrayIndexOutOfBoundsException") hown htab [] ⟨10, 17, 20, 123⟩ [⟨0, 33, 34, 21⟩] rfl (fun z9 hz9 => absurd hz9 List.not_mem_nil) (by decide) (by decide) (hts _ q415) (hG.1.2.1.1 _ qn472) hce ?_
          refine lv_astore (lv' := [(6, .ref qa), (5, .ref ro), (0, .ref x), (1, .int (zI (v1 : Int))), (2, .int (zI i)), (3, .long y)]) hx hb dX0_set_20 hl (by decide) rfl (fun ls hl => ?_)
          refine g_new (ci := 4) hx hb hts in_X5 tyX5 tyX5_ok hown (hts _ q410) (hts _ q497) (hts _ q109) hG rfl (fs := [.null, .null, .null, .null, .null, .int (zI 0), .int (zI 0)]) rfl ⟨by show _ ≤ 8; omega, by show _ ≤ 1200; omega⟩ dX0_set_22 (fun q9 H (hG : gW X F V ((q9, oB 4 [.null, .null, .null, .null, .null, .int (zI 0), .int (zI 0)]) :: Z) s H _) => ?_)
          refine lv_dup hx hb dX0_set_25 rfl ?_
          refine lv_bipush (v := zI (-5)) hx hb dX0_set_26 (by decide +kernel) ?_
          refine g_cv (va_runI (As := [.int (zI (-5))]) (rest := [.ref q9]) ⟨hx, hb, hml, hown, hts⟩ (metX5_init) (cwI 1 hts (lw_meth q507) rfl rfl rfl (hts _ q109) (hts _ q505) (hts _ q506) rfl (by decide +kernel) ⟨Nat.le_of_ble_eq_true rfl, Nat.le_of_ble_eq_true rfl⟩) (g_preS hG) rfl rfl hl.1 rfl (lv_room (Nat.le_of_ble_eq_true rfl)) dX0_set_28 ⟨by show _ ≤ 8; omega, by show _ ≤ 1200; omega⟩) hG (fun F_36 V_37 ws_ H locs hp hG => ?_)
          obtain ⟨rfl, rfl, rfl⟩ := hp
          have hG : gW X F V ((q9, oB 4 [.null, .null, .null, .null, .null, .int (zI 0), .int (zI (-5))]) :: Z) s H locs := hG
          obtain ⟨G9, hle_G9, hq9, hG⟩ := hG.freeze
          have hG : gW X G9 V (Z) s _ _ := hG
          refine vx_athrow hx hb dX0_set_31 ?_
          have hq9 : isRef G9 q9 5 := hq9
          obtain ⟨ce9, hce⟩ := ex_cell hG hq9 (k := (RX5, TX5, 7)) rfl
          refine g_catch (name := "LineRemarks$Refused") hown htab [⟨10, 17, 20, 123⟩] ⟨0, 33, 34, 21⟩ [] rfl (List.forall_mem_cons.mpr ⟨Or.inl (by decide), (fun z9 hz9 => absurd hz9 List.not_mem_nil)⟩) (by decide) (by decide) (hts _ q410) (hG.1.2.1.1 _ qn498) hce ?_
          refine lv_astore (lv' := [(5, .ref q9), (6, .ref qa), (0, .ref x), (1, .int (zI (v1 : Int))), (2, .int (zI i)), (3, .long y)]) hx hb dX0_set_34 hl (by decide) rfl (fun ls hl => ?_)
          refine lv_aload_n hx hb dX0_set_36 rfl (lv_at hl 2 rfl) ?_
          refine lv_aload hx hb dX0_set_37 (lv_at hl 0 rfl) ?_
          refine g_ci (va_runV (As := [.ref q9]) (rest := []) ⟨hx, hb, hml, hown, hts⟩ (metX0_refused (k := 5) (hS.mono hle_G9) hA hq9 (by decide)) (cwV 1 hts (lw_V q589 q591 qs2 q87 q592) rfl rfl rfl (by decide +kernel) ⟨Nat.le_of_ble_eq_true rfl, Nat.le_of_ble_eq_true rfl⟩) (g_preV hG (g_recv hG (hG.vo hx0) (ci := 0) rfl)) rfl rfl hl.1 rfl (lv_room (Nat.le_of_ble_eq_true rfl)) dX0_set_39 ⟨by show _ ≤ 8; omega, by show _ ≤ 1200; omega⟩) hG (fun r_38 F_39 V_40 ws_ H locs hp hG => ?_)
          obtain ⟨rfl, rfl, hS9, rfl⟩ := hp
          have hG : gW X G9 V_40 (Z) s H locs := hG
          refine vx_ret ?_
          exact g_iret hx hb hr hlocks hG (by have e9 : opSet a (v1 : Int) i y = aNoR a 5 := (by unfold opSet; rw [if_neg (by omega), show aSv a ((v1 : Nat) : Int).toNat = some (.inr (so1, n9, f9)) from hsvv]; first | done | rfl | (show (if _ then _ else _) = _; rw [if_pos (by omega)]; first | done | rfl)); rw [e9]; exact ⟨hle_G9, rfl, hS9.ex, rfl⟩) ⟨by show _ ≤ 8; omega, by show _ ≤ 1200; omega⟩ dX0_set_42
        exact hp.elim
  · refine g_xr (vx_runVX (As := [.int (zI v)]) (rest := []) ⟨hx, hb, hml, hown, hts⟩ (metX0_shelf_f hS hA hst (by omega)) (vx_cwVW 1 hts (lw_VW q411 q413 qs0 q87 q414) rfl rfl rfl (by decide +kernel) ⟨Nat.le_of_ble_eq_true rfl, Nat.le_of_ble_eq_true rfl⟩) (g_preV hG (g_recv hG (hG.vo hx0) (ci := 0) rfl)) rfl rfl hl.1 rfl (lv_room (Nat.le_of_ble_eq_true rfl)) dX0_set_2 ⟨by show _ ≤ 8; omega, by show _ ≤ 1200; omega⟩) hG (fun E9 ce9 q9 Fx_44 Vx_45 ws_ H locs hpx hG hce => ?_) (fun r_41 F_42 V_43 ws_ H locs hp hG => ?_)
    · obtain ⟨rfl, hle_Fx_44, hq9, rfl, rfl⟩ := hpx
      have hG : gW X Fx_44 V (Z) s H locs := hG
      refine g_catch (name := "LineRemarks$Refused") hown htab [⟨10, 17, 20, 123⟩] ⟨0, 33, 34, 21⟩ [] rfl (List.forall_mem_cons.mpr ⟨Or.inl (by decide), (fun z9 hz9 => absurd hz9 List.not_mem_nil)⟩) (by decide) (by decide) (hts _ q410) (hG.1.2.1.1 _ qn498) hce ?_
      refine lv_astore (lv' := [(5, .ref q9), (0, .ref x), (1, .int (zI v)), (2, .int (zI i)), (3, .long y)]) hx hb dX0_set_34 hl (by decide) rfl (fun ls hl => ?_)
      refine lv_aload_n hx hb dX0_set_36 rfl (lv_at hl 1 rfl) ?_
      refine lv_aload hx hb dX0_set_37 (lv_at hl 0 rfl) ?_
      refine g_ci (va_runV (As := [.ref q9]) (rest := []) ⟨hx, hb, hml, hown, hts⟩ (metX0_refused (k := 1) (hS.mono hle_Fx_44) hA hq9 (by decide)) (cwV 1 hts (lw_V q589 q591 qs2 q87 q592) rfl rfl rfl (by decide +kernel) ⟨Nat.le_of_ble_eq_true rfl, Nat.le_of_ble_eq_true rfl⟩) (g_preV hG (g_recv hG (hG.vo hx0) (ci := 0) rfl)) rfl rfl hl.1 rfl (lv_room (Nat.le_of_ble_eq_true rfl)) dX0_set_39 ⟨by show _ ≤ 8; omega, by show _ ≤ 1200; omega⟩) hG (fun r_46 F_47 V_48 ws_ H locs hp hG => ?_)
      obtain ⟨rfl, rfl, hS9, rfl⟩ := hp
      have hG : gW X Fx_44 V_48 (Z) s H locs := hG
      refine vx_ret ?_
      exact g_iret hx hb hr hlocks hG (by have e9 : opSet a v i y = aNoR a 1 := (by unfold opSet; rw [if_pos (by omega)]); rw [e9]; exact ⟨hle_Fx_44, rfl, hS9.ex, rfl⟩) ⟨by show _ ≤ 8; omega, by show _ ≤ 1200; omega⟩ dX0_set_42
    exact hp.elim

set_option maxHeartbeats 4000000 in
theorem metX0_element {l : Launch} {X : gX} {F : gF} {V : gV} {Z : va_W} {x sa rf tr tb kl wa rv rk st : Nat} {sh ra la ma : Nat → Nat} {im : Option Nat} {a : aS} (hS : xS X F V x a sa rf tr tb kl wa rv rk st sh ra la ma im) (hA : aOK a) (hst : l.stackTraces = false) {v i : Int} (hrv : (-2147483648 ≤ v ∧ v < 2147483648)) (hri : (-2147483648 ≤ i ∧ i < 2147483648)) : vx_Met l yX0_element (wsW_ yX0_element cX0_element 4 (some FieldType.long) [(0, 12, 13, 21), (0, 12, 16, 123)]) ({ frames := 9, cells := 8, slots := 1200, locals := 10278 }) (gP X F V (Z) [.ref x, .int (zI v), .int (zI i)]) (gQl X (fun u G U ws => gLe F G ∧ u = opElem a v i ∧ xX X G U x a ∧ Z = ws)) (gXc X (fun _ _ _ _ _ => False)) 8 1200 (gA X) := by
  refine vx_Met.gH (by decide) (Nat.le_of_ble_eq_true rfl) ?_
  intro p e s m below meth c ls hx hb hr hts hown hlocks hml hin htab hG hl
  have hl : lv_has ls 4 [(0, .ref x), (1, .int (zI v)), (2, .int (zI i))] := hl
  have hSA := hS
  obtain ⟨hx0, ⟨fs9, hx1, hsh⟩, ⟨gr9, hx2, hgr⟩, hx3, hx4, hW, hx6, hx7⟩ := hSA
  have hSA := hS
  have hK := hA.w
  have hNN := hK.n
  have hMM := hK.m
  refine lv_aload_n hx hb dX0_element_0 rfl (lv_at hl 0 rfl) ?_
  refine lv_iload_n hx hb dX0_element_1 rfl (lv_at hl 1 rfl) ?_
  by_cases hv7 : 0 ≤ v ∧ v ≤ 7
  · obtain ⟨v1, rfl⟩ : ∃ z : Nat, v = (z : Int) := ⟨v.toNat, by omega⟩
    refine g_xr (vx_runVX (As := [.int (zI (v1 : Int))]) (rest := []) ⟨hx, hb, hml, hown, hts⟩ (metX0_shelf_t (v := v1) hS hA (by omega)) (vx_cwVW 1 hts (lw_VW q411 q413 qs0 q87 q414) rfl rfl rfl (by decide +kernel) ⟨Nat.le_of_ble_eq_true rfl, Nat.le_of_ble_eq_true rfl⟩) (g_preV hG (g_recv hG (hG.vo hx0) (ci := 0) rfl)) rfl rfl hl.1 rfl (lv_room (Nat.le_of_ble_eq_true rfl)) dX0_element_2 ⟨by show _ ≤ 8; omega, by show _ ≤ 1200; omega⟩) hG (fun E9 ce9 q9 Fx_4 Vx_5 ws_ H locs hpx hG hce => ?_) (fun r_1 F_2 V_3 ws_ H locs hp hG => ?_)
    · exact hpx.elim
    obtain ⟨rfl, rfl, rfl, rfl⟩ := hp
    have hG : gW X F V (Z) s H locs := hG
    have hx7v := hx7 v1 (by omega)
    have hok7 := hA.2.1 v1
    have hMk7 := hW.2.2.2.2.2
    rcases hsvv : aSv a v1 with _ | m1 | ⟨so1, n9, f9⟩
    · rw [hsvv] at hx7v
      have hsv : V (20 + v1) = some (sh v1, oB 3 [.null]) := hx7v
      refine g_xr (vx_runVX (As := []) (rest := []) ⟨hx, hb, hml, hown, hts⟩ (metX3_row_n (rj := 20 + v1) hsv) (vx_cwVW 0 hts (lw_VW q597 q598 q599 q101 q600) rfl rfl rfl (by decide +kernel) ⟨Nat.le_of_ble_eq_true rfl, Nat.le_of_ble_eq_true rfl⟩) (g_preV hG (g_recv hG (hG.vo hsv) (ci := 3) rfl)) rfl rfl hl.1 rfl (lv_room (Nat.le_of_ble_eq_true rfl)) dX0_element_5 ⟨by show _ ≤ 8; omega, by show _ ≤ 1200; omega⟩) hG (fun E9 ce9 q9 Fx_9 Vx_10 ws_ H locs hpx hG hce => ?_) (fun r_6 F_7 V_8 ws_ H locs hp hG => ?_)
      · obtain ⟨rfl, hle_Fx_9, hq9, rfl, rfl⟩ := hpx
        have hG : gW X Fx_9 V (Z) s H locs := hG
        refine g_catch (name := "LineRemarks$Refused") hown htab [] ⟨0, 12, 13, 21⟩ [⟨0, 12, 16, 123⟩] rfl (fun z9 hz9 => absurd hz9 List.not_mem_nil) (by decide) (by decide) (hts _ q410) (hG.1.2.1.1 _ qn498) hce ?_
        refine lv_astore_n (lv' := [(3, .ref q9), (0, .ref x), (1, .int (zI (v1 : Int))), (2, .int (zI i))]) hx hb dX0_element_13 rfl hl (by decide) rfl (fun ls hl => ?_)
        refine lv_lconst (v := zL 0) hx hb dX0_element_14 (by decide +kernel) ?_
        refine vx_ret ?_
        exact g_lret hx hb hr hlocks hG (by have e9 : opElem a (v1 : Int) i = 0 := (by unfold opElem; rw [if_neg (by omega), show aSv a ((v1 : Nat) : Int).toNat = none from hsvv]; first | done | rfl | (first | done | rfl)); rw [e9]; exact ⟨hle_Fx_9, (by decide +kernel), ((hS.mono hle_Fx_9)).ex, rfl⟩) ⟨by show _ ≤ 8; omega, by show _ ≤ 1200; omega⟩ dX0_element_15
      exact hp.elim
    · rw [hsvv] at hx7v hok7
      have hm1 : m1 < wM (aWd a) := hok7
      have hsv : V (20 + v1) = some (sh v1, oB 3 [.ref (ma m1)]) := hx7v
      have hrm1 := hMk7 m1 hm1
      have hkd1 := (hK.rk hm1).1
      refine g_xr (vx_runVX (As := []) (rest := []) ⟨hx, hb, hml, hown, hts⟩ (metX3_row_f (rj := 20 + v1) hsv (rm_ncR hkd1 hrm1) hst) (vx_cwVW 0 hts (lw_VW q597 q598 q599 q101 q600) rfl rfl rfl (by decide +kernel) ⟨Nat.le_of_ble_eq_true rfl, Nat.le_of_ble_eq_true rfl⟩) (g_preV hG (g_recv hG (hG.vo hsv) (ci := 3) rfl)) rfl rfl hl.1 rfl (lv_room (Nat.le_of_ble_eq_true rfl)) dX0_element_5 ⟨by show _ ≤ 8; omega, by show _ ≤ 1200; omega⟩) hG (fun E9 ce9 q9 Fx_14 Vx_15 ws_ H locs hpx hG hce => ?_) (fun r_11 F_12 V_13 ws_ H locs hp hG => ?_)
      · obtain ⟨rfl, hle_Fx_14, hq9, rfl, rfl⟩ := hpx
        have hG : gW X Fx_14 V (Z) s H locs := hG
        refine g_catch (name := "LineRemarks$Refused") hown htab [] ⟨0, 12, 13, 21⟩ [⟨0, 12, 16, 123⟩] rfl (fun z9 hz9 => absurd hz9 List.not_mem_nil) (by decide) (by decide) (hts _ q410) (hG.1.2.1.1 _ qn498) hce ?_
        refine lv_astore_n (lv' := [(3, .ref q9), (0, .ref x), (1, .int (zI (v1 : Int))), (2, .int (zI i))]) hx hb dX0_element_13 rfl hl (by decide) rfl (fun ls hl => ?_)
        refine lv_lconst (v := zL 0) hx hb dX0_element_14 (by decide +kernel) ?_
        refine vx_ret ?_
        exact g_lret hx hb hr hlocks hG (by have e9 : opElem a (v1 : Int) i = 0 := (by unfold opElem; rw [if_neg (by omega), show aSv a ((v1 : Nat) : Int).toNat = some (.inl m1) from hsvv]; first | done | rfl | (first | done | rfl)); rw [e9]; exact ⟨hle_Fx_14, (by decide +kernel), ((hS.mono hle_Fx_14)).ex, rfl⟩) ⟨by show _ ≤ 8; omega, by show _ ≤ 1200; omega⟩ dX0_element_15
      exact hp.elim
    · rw [hsvv] at hx7v hok7
      obtain ⟨ro, ar, hsv, hro, hVr, hfx⟩ := hx7v
      obtain ⟨hso, hn160⟩ : so1 ≤ 3 ∧ n9 ≤ 160 := hok7
      refine g_xr (vx_runVX (As := []) (rest := []) ⟨hx, hb, hml, hown, hts⟩ (metX3_row_t (rj := 20 + v1) hsv hso hro) (vx_cwVW 0 hts (lw_VW q597 q598 q599 q101 q600) rfl rfl rfl (by decide +kernel) ⟨Nat.le_of_ble_eq_true rfl, Nat.le_of_ble_eq_true rfl⟩) (g_preV hG (g_recv hG (hG.vo hsv) (ci := 3) rfl)) rfl rfl hl.1 rfl (lv_room (Nat.le_of_ble_eq_true rfl)) dX0_element_5 ⟨by show _ ≤ 8; omega, by show _ ≤ 1200; omega⟩) hG (fun E9 ce9 q9 Fx_19 Vx_20 ws_ H locs hpx hG hce => ?_) (fun r_16 F_17 V_18 ws_ H locs hp hG => ?_)
      · exact hpx.elim
      obtain ⟨rfl, rfl, rfl, rfl⟩ := hp
      have hG : gW X F V (Z) s H locs := hG
      by_cases hi9 : 0 ≤ i ∧ i < n9
      · obtain ⟨i1, rfl⟩ : ∃ z : Nat, i = (z : Int) := ⟨i.toNat, by omega⟩
        refine lv_iload_n hx hb dX0_element_8 rfl (lv_at hl 2 rfl) ?_
        refine g_cl (run_row_get_t hso hro hVr (i := i1) (by omega) (hfx i1 (by omega)) ⟨hx, hb, hml, hown, hts⟩ q681 hG ⟨Nat.le_of_ble_eq_true rfl, Nat.le_of_ble_eq_true rfl⟩ hl.1 (lv_room (Nat.le_of_ble_eq_true rfl)) dX0_element_9 ⟨by show _ ≤ 8; omega, by show _ ≤ 1200; omega⟩) hG (fun r_21 F_22 V_23 ws_ H locs hp hG => ?_)
        obtain ⟨rfl, rfl, rfl, rfl⟩ := hp
        have hG : gW X F V (Z) s H locs := hG
        refine vx_ret ?_
        exact g_lret hx hb hr hlocks hG (by have e9 : opElem a (v1 : Int) (i1 : Int) = f9 i1 := (by unfold opElem; rw [if_neg (by omega), show aSv a ((v1 : Nat) : Int).toNat = some (.inr (so1, n9, f9)) from hsvv]; first | done | rfl | (show (if _ then _ else _) = _; rw [if_pos (by omega)]; first | done | rfl)); rw [e9]; exact ⟨(gLe.rfl (V := V)), rfl, (hS).ex, rfl⟩) ⟨by show _ ≤ 8; omega, by show _ ≤ 1200; omega⟩ dX0_element_12
      · refine lv_iload_n hx hb dX0_element_8 rfl (lv_at hl 2 rfl) ?_
        refine g_xl (run_row_get_f hso hro hVr hst (by omega) ⟨hx, hb, hml, hown, hts⟩ q681 hG ⟨Nat.le_of_ble_eq_true rfl, Nat.le_of_ble_eq_true rfl⟩ hl.1 (lv_room (Nat.le_of_ble_eq_true rfl)) dX0_element_9 ⟨by show _ ≤ 8; omega, by show _ ≤ 1200; omega⟩) hG (fun E9 ce9 q9 Fx_27 Vx_28 ws_ H locs hpx hG hce => ?_) (fun r_24 F_25 V_26 ws_ H locs hp hG => ?_)
        · obtain ⟨rfl, rfl, rfl, rfl⟩ := hpx
          have hG : gW X F V (Z) s H locs := hG
          refine g_catch (name := "java/lang/ArrayIndexOutOfBoundsException") hown htab [⟨0, 12, 13, 21⟩] ⟨0, 12, 16, 123⟩ [] rfl (List.forall_mem_cons.mpr ⟨Or.inr ⟨by decide, "LineRemarks$Refused", hts _ q410, (gW_xt hG).2.2.2.1 _ qc77⟩, (fun z9 hz9 => absurd hz9 List.not_mem_nil)⟩) (by decide) (by decide) (hts _ q415) (hG.1.2.1.1 _ qn472) hce ?_
          refine lv_astore_n (lv' := [(3, .ref q9), (0, .ref x), (1, .int (zI (v1 : Int))), (2, .int (zI i))]) hx hb dX0_element_16 rfl hl (by decide) rfl (fun ls hl => ?_)
          refine lv_lconst (v := zL 0) hx hb dX0_element_17 (by decide +kernel) ?_
          refine vx_ret ?_
          exact g_lret hx hb hr hlocks hG (by have e9 : opElem a (v1 : Int) i = 0 := (by unfold opElem; rw [if_neg (by omega), show aSv a ((v1 : Nat) : Int).toNat = some (.inr (so1, n9, f9)) from hsvv]; first | done | rfl | (show (if _ then _ else _) = _; rw [if_neg (by omega)]; first | done | rfl)); rw [e9]; exact ⟨(gLe.rfl (V := V)), (by decide +kernel), (hS).ex, rfl⟩) ⟨by show _ ≤ 8; omega, by show _ ≤ 1200; omega⟩ dX0_element_18
        exact hp.elim
  · refine g_xr (vx_runVX (As := [.int (zI v)]) (rest := []) ⟨hx, hb, hml, hown, hts⟩ (metX0_shelf_f hS hA hst (by omega)) (vx_cwVW 1 hts (lw_VW q411 q413 qs0 q87 q414) rfl rfl rfl (by decide +kernel) ⟨Nat.le_of_ble_eq_true rfl, Nat.le_of_ble_eq_true rfl⟩) (g_preV hG (g_recv hG (hG.vo hx0) (ci := 0) rfl)) rfl rfl hl.1 rfl (lv_room (Nat.le_of_ble_eq_true rfl)) dX0_element_2 ⟨by show _ ≤ 8; omega, by show _ ≤ 1200; omega⟩) hG (fun E9 ce9 q9 Fx_32 Vx_33 ws_ H locs hpx hG hce => ?_) (fun r_29 F_30 V_31 ws_ H locs hp hG => ?_)
    · obtain ⟨rfl, hle_Fx_32, hq9, rfl, rfl⟩ := hpx
      have hG : gW X Fx_32 V (Z) s H locs := hG
      refine g_catch (name := "LineRemarks$Refused") hown htab [] ⟨0, 12, 13, 21⟩ [⟨0, 12, 16, 123⟩] rfl (fun z9 hz9 => absurd hz9 List.not_mem_nil) (by decide) (by decide) (hts _ q410) (hG.1.2.1.1 _ qn498) hce ?_
      refine lv_astore_n (lv' := [(3, .ref q9), (0, .ref x), (1, .int (zI v)), (2, .int (zI i))]) hx hb dX0_element_13 rfl hl (by decide) rfl (fun ls hl => ?_)
      refine lv_lconst (v := zL 0) hx hb dX0_element_14 (by decide +kernel) ?_
      refine vx_ret ?_
      exact g_lret hx hb hr hlocks hG (by have e9 : opElem a v i = 0 := (by unfold opElem; rw [if_pos (by omega)]); rw [e9]; exact ⟨hle_Fx_32, (by decide +kernel), ((hS.mono hle_Fx_32)).ex, rfl⟩) ⟨by show _ ≤ 8; omega, by show _ ≤ 1200; omega⟩ dX0_element_15
    exact hp.elim

set_option maxHeartbeats 4000000 in
theorem metX0_show {l : Launch} {X : gX} {F : gF} {V : gV} {Z : va_W} {x sa rf tr tb kl wa rv rk st : Nat} {sh ra la ma : Nat → Nat} {im : Option Nat} {a : aS} (hS : xS X F V x a sa rf tr tb kl wa rv rk st sh ra la ma im) (hA : aOK a) (hst : l.stackTraces = false) {v mm : Int} (hrv : (-2147483648 ≤ v ∧ v < 2147483648)) (hrmm : (-2147483648 ≤ mm ∧ mm < 2147483648)) : vx_Met l yX0_show (wsW_ yX0_show cX0_show 4 (some FieldType.int) [(0, 17, 29, 21), (18, 28, 29, 21)]) ({ frames := 9, cells := 8, slots := 1200, locals := 10278 }) (gP X F V (Z) [.ref x, .int (zI v), .int (zI mm)]) (gQi X (fun u G U ws => gLe F G ∧ u = zI (opShow a v mm).1 ∧ xX X G U x (opShow a v mm).2 ∧ Z = ws)) (gXc X (fun _ _ _ _ _ => False)) 8 1200 (gA X) := by
  refine vx_Met.gH (by decide) (Nat.le_of_ble_eq_true rfl) ?_
  intro p e s m below meth c ls hx hb hr hts hown hlocks hml hin htab hG hl
  have hl : lv_has ls 4 [(0, .ref x), (1, .int (zI v)), (2, .int (zI mm))] := hl
  have hSA := hS
  obtain ⟨hx0, ⟨fs9, hx1, hsh⟩, ⟨gr9, hx2, hgr⟩, hx3, hx4, hW, hx6, hx7⟩ := hSA
  have hSA := hS
  have hK := hA.w
  have hNN := hK.n
  have hMM := hK.m
  refine lv_aload_n hx hb dX0_show_0 rfl (lv_at hl 0 rfl) ?_
  refine lv_iload_n hx hb dX0_show_1 rfl (lv_at hl 1 rfl) ?_
  by_cases hv7 : 0 ≤ v ∧ v ≤ 7
  · obtain ⟨v1, rfl⟩ : ∃ z : Nat, v = (z : Int) := ⟨v.toNat, by omega⟩
    refine g_xr (vx_runVX (As := [.int (zI (v1 : Int))]) (rest := []) ⟨hx, hb, hml, hown, hts⟩ (metX0_shelf_t (v := v1) hS hA (by omega)) (vx_cwVW 1 hts (lw_VW q411 q413 qs0 q87 q414) rfl rfl rfl (by decide +kernel) ⟨Nat.le_of_ble_eq_true rfl, Nat.le_of_ble_eq_true rfl⟩) (g_preV hG (g_recv hG (hG.vo hx0) (ci := 0) rfl)) rfl rfl hl.1 rfl (lv_room (Nat.le_of_ble_eq_true rfl)) dX0_show_2 ⟨by show _ ≤ 8; omega, by show _ ≤ 1200; omega⟩) hG (fun E9 ce9 q9 Fx_4 Vx_5 ws_ H locs hpx hG hce => ?_) (fun r_1 F_2 V_3 ws_ H locs hp hG => ?_)
    · exact hpx.elim
    obtain ⟨rfl, rfl, rfl, rfl⟩ := hp
    have hG : gW X F V (Z) s H locs := hG
    refine lv_astore_n (lv' := [(3, .ref (sh v1)), (0, .ref x), (1, .int (zI (v1 : Int))), (2, .int (zI mm))]) hx hb dX0_show_5 rfl hl (by decide) rfl (fun ls hl => ?_)
    refine lv_iload_n hx hb dX0_show_6 rfl (lv_at hl 3 rfl) ?_
    refine lv_iconst (v := zI (-1)) hx hb dX0_show_7 (by decide +kernel) ?_
    refine g_cne (tgt := 18) hx hb dX0_show_8 (by decide) (by omega) (fun h2 => ?_) (fun h2 => ?_)
    · by_cases hmm : 0 ≤ mm ∧ mm < wM (aWd a)
      · obtain ⟨m1, rfl⟩ : ∃ z : Nat, mm = (z : Int) := ⟨mm.toNat, by omega⟩
        refine lv_aload_n hx hb dX0_show_18 rfl (lv_at hl 0 rfl) ?_
        refine lv_aload_n hx hb dX0_show_19 rfl (lv_at hl 1 rfl) ?_
        refine lv_iload_n hx hb dX0_show_20 rfl (lv_at hl 3 rfl) ?_
        refine g_cr (va_runV (As := [.int (zI (m1 : Int))]) (rest := [.ref (sh v1)]) ⟨hx, hb, hml, hown, hts⟩ (metX0_told_t (r := m1) hS hA (by omega)) (cwV 1 hts (lw_V q700 q702 qs3 q87 q703) rfl rfl rfl (by decide +kernel) ⟨Nat.le_of_ble_eq_true rfl, Nat.le_of_ble_eq_true rfl⟩) (g_preV hG (g_recv hG (hG.vo hx0) (ci := 0) rfl)) rfl rfl hl.1 rfl (lv_room (Nat.le_of_ble_eq_true rfl)) dX0_show_21 ⟨by show _ ≤ 8; omega, by show _ ≤ 1200; omega⟩) hG (fun r_6 F_7 V_8 ws_ H locs hp hG => ?_)
        obtain ⟨rfl, rfl, rfl, rfl⟩ := hp
        have hG : gW X F V (Z) s H locs := hG
        obtain ⟨h0, hsv⟩ := xSh.any (hx7 v1 (by omega))
        refine g_putV (ci := 3) hx hb hts in_X3 tyX3 tyX3_ok nmX3 hown hG hsv rfl 0 (Nat.le_of_ble_eq_true rfl) (hts _ q380) (fun _ h9 => h9) rfl (tyX3_ok 0 (Nat.le_of_ble_eq_true rfl)) rfl rfl (Nat.le_of_ble_eq_true rfl) dX0_show_24 (fun H locs (hG : gW X F (va_up V (20 + v1) (some ((sh v1), oB 3 [.ref (ma m1)]))) (Z) s H locs) => ?_)
        have hx0 : (va_up V (20 + v1) (some ((sh v1), oB 3 [.ref (ma m1)]))) 0 = some (x, oB 0 [.ref sa, .ref rf, .ref tr, .ref kl, .ref wa, va_rf im, .int (zI (aFa a))]) := (vun (by omega)).trans hx0
        have hx2 : (va_up V (20 + v1) (some ((sh v1), oB 3 [.ref (ma m1)]))) 1 = some (rf, aI (gT X 0) 8 gr9) := (vun (by omega)).trans hx2
        have hsv : (va_up V (20 + v1) (some ((sh v1), oB 3 [.ref (ma m1)]))) (20 + v1) = some ((sh v1), oB 3 [.ref (ma m1)]) := vus
        refine lv_iconst (v := zI 1) hx hb dX0_show_27 (by decide +kernel) ?_
        have hS1 := hS.setSh (i := v1) (U := (va_up V (20 + v1) (some ((sh v1), oB 3 [.ref (ma m1)])))) (y := some (.inl m1)) (by omega) (fun r9 h1 h2 => va_up_ne _ _ h1) hsv
        refine vx_ret ?_
        exact g_iret hx hb hr hlocks hG (by have e9 : opShow a (v1 : Int) (m1 : Int) = (1, aSet a v1 (some (.inl m1))) := (by unfold opShow; rw [if_neg (by omega), if_neg (by omega), if_neg (by omega)]; rfl); rw [e9]; exact ⟨(gLe.rfl (V := V)), rfl, (hS1).ex, rfl⟩) ⟨by show _ ≤ 8; omega, by show _ ≤ 1200; omega⟩ dX0_show_28
      · refine lv_aload_n hx hb dX0_show_18 rfl (lv_at hl 0 rfl) ?_
        refine lv_aload_n hx hb dX0_show_19 rfl (lv_at hl 1 rfl) ?_
        refine lv_iload_n hx hb dX0_show_20 rfl (lv_at hl 3 rfl) ?_
        refine g_xr (vx_runV (As := [.int (zI mm)]) (rest := [.ref (sh v1)]) ⟨hx, hb, hml, hown, hts⟩ (metX0_told_f hS hA (by omega)) (cwV 1 hts (lw_V q700 q702 qs3 q87 q703) rfl rfl rfl (by decide +kernel) ⟨Nat.le_of_ble_eq_true rfl, Nat.le_of_ble_eq_true rfl⟩) (g_preV hG (g_recv hG (hG.vo hx0) (ci := 0) rfl)) rfl rfl hl.1 rfl (lv_room (Nat.le_of_ble_eq_true rfl)) dX0_show_21 ⟨by show _ ≤ 8; omega, by show _ ≤ 1200; omega⟩) hG (fun E9 ce9 q9 Fx_12 Vx_13 ws_ H locs hpx hG hce => ?_) (fun r_9 F_10 V_11 ws_ H locs hp hG => ?_)
        · obtain ⟨rfl, hle_Fx_12, hq9, rfl, rfl⟩ := hpx
          have hG : gW X Fx_12 V (Z) s H locs := hG
          refine g_catch (name := "LineRemarks$Refused") hown htab [⟨0, 17, 29, 21⟩] ⟨18, 28, 29, 21⟩ [] rfl (List.forall_mem_cons.mpr ⟨Or.inl (by decide), (fun z9 hz9 => absurd hz9 List.not_mem_nil)⟩) (by decide) (by decide) (hts _ q410) (hG.1.2.1.1 _ qn498) hce ?_
          refine lv_astore_n (lv' := [(3, .ref q9), (0, .ref x), (1, .int (zI (v1 : Int))), (2, .int (zI mm))]) hx hb dX0_show_29 rfl hl (by decide) rfl (fun ls hl => ?_)
          refine lv_aload_n hx hb dX0_show_30 rfl (lv_at hl 1 rfl) ?_
          refine lv_aload_n hx hb dX0_show_31 rfl (lv_at hl 0 rfl) ?_
          refine g_ci (va_runV (As := [.ref q9]) (rest := []) ⟨hx, hb, hml, hown, hts⟩ (metX0_refused (k := 1) (hS.mono hle_Fx_12) hA hq9 (by decide)) (cwV 1 hts (lw_V q589 q591 qs2 q87 q592) rfl rfl rfl (by decide +kernel) ⟨Nat.le_of_ble_eq_true rfl, Nat.le_of_ble_eq_true rfl⟩) (g_preV hG (g_recv hG (hG.vo hx0) (ci := 0) rfl)) rfl rfl hl.1 rfl (lv_room (Nat.le_of_ble_eq_true rfl)) dX0_show_32 ⟨by show _ ≤ 8; omega, by show _ ≤ 1200; omega⟩) hG (fun r_14 F_15 V_16 ws_ H locs hp hG => ?_)
          obtain ⟨rfl, rfl, hS9, rfl⟩ := hp
          have hG : gW X Fx_12 V_16 (Z) s H locs := hG
          refine vx_ret ?_
          exact g_iret hx hb hr hlocks hG (by have e9 : opShow a (v1 : Int) mm = aNoR a 1 := (by unfold opShow; rw [if_neg (by omega), if_neg (by omega), if_pos (by omega)]; first | done | rfl); rw [e9]; exact ⟨hle_Fx_12, rfl, hS9.ex, rfl⟩) ⟨by show _ ≤ 8; omega, by show _ ≤ 1200; omega⟩ dX0_show_35
        exact hp.elim
    · obtain ⟨h0, hsv⟩ := xSh.any (hx7 v1 (by omega))
      refine lv_aload_n hx hb dX0_show_11 rfl (lv_at hl 0 rfl) ?_
      refine lv_null hx hb dX0_show_12 ?_
      refine g_putV (ci := 3) hx hb hts in_X3 tyX3 tyX3_ok nmX3 hown hG hsv rfl 0 (Nat.le_of_ble_eq_true rfl) (hts _ q380) (fun _ h9 => h9) rfl (tyX3_ok 0 (Nat.le_of_ble_eq_true rfl)) rfl rfl (Nat.le_of_ble_eq_true rfl) dX0_show_13 (fun H locs (hG : gW X F (va_up V (20 + v1) (some ((sh v1), oB 3 [.null]))) (Z) s H locs) => ?_)
      have hx0 : (va_up V (20 + v1) (some ((sh v1), oB 3 [.null]))) 0 = some (x, oB 0 [.ref sa, .ref rf, .ref tr, .ref kl, .ref wa, va_rf im, .int (zI (aFa a))]) := (vun (by omega)).trans hx0
      have hx2 : (va_up V (20 + v1) (some ((sh v1), oB 3 [.null]))) 1 = some (rf, aI (gT X 0) 8 gr9) := (vun (by omega)).trans hx2
      have hsv : (va_up V (20 + v1) (some ((sh v1), oB 3 [.null]))) (20 + v1) = some ((sh v1), oB 3 [.null]) := vus
      refine lv_iconst (v := zI 0) hx hb dX0_show_16 (by decide +kernel) ?_
      have hS1 := hS.setSh (i := v1) (U := (va_up V (20 + v1) (some ((sh v1), oB 3 [.null])))) (y := none) (by omega) (fun r9 h1 h2 => va_up_ne _ _ h1) hsv
      refine vx_ret ?_
      exact g_iret hx hb hr hlocks hG (by have e9 : opShow a (v1 : Int) mm = (0, aSet a v1 none) := (by unfold opShow; rw [if_neg (by omega), if_pos (by omega)]; rfl); rw [e9]; exact ⟨(gLe.rfl (V := V)), rfl, (hS1).ex, rfl⟩) ⟨by show _ ≤ 8; omega, by show _ ≤ 1200; omega⟩ dX0_show_17
  · refine g_xr (vx_runVX (As := [.int (zI v)]) (rest := []) ⟨hx, hb, hml, hown, hts⟩ (metX0_shelf_f hS hA hst (by omega)) (vx_cwVW 1 hts (lw_VW q411 q413 qs0 q87 q414) rfl rfl rfl (by decide +kernel) ⟨Nat.le_of_ble_eq_true rfl, Nat.le_of_ble_eq_true rfl⟩) (g_preV hG (g_recv hG (hG.vo hx0) (ci := 0) rfl)) rfl rfl hl.1 rfl (lv_room (Nat.le_of_ble_eq_true rfl)) dX0_show_2 ⟨by show _ ≤ 8; omega, by show _ ≤ 1200; omega⟩) hG (fun E9 ce9 q9 Fx_20 Vx_21 ws_ H locs hpx hG hce => ?_) (fun r_17 F_18 V_19 ws_ H locs hp hG => ?_)
    · obtain ⟨rfl, hle_Fx_20, hq9, rfl, rfl⟩ := hpx
      have hG : gW X Fx_20 V (Z) s H locs := hG
      refine g_catch (name := "LineRemarks$Refused") hown htab [] ⟨0, 17, 29, 21⟩ [⟨18, 28, 29, 21⟩] rfl (fun z9 hz9 => absurd hz9 List.not_mem_nil) (by decide) (by decide) (hts _ q410) (hG.1.2.1.1 _ qn498) hce ?_
      refine lv_astore_n (lv' := [(3, .ref q9), (0, .ref x), (1, .int (zI v)), (2, .int (zI mm))]) hx hb dX0_show_29 rfl hl (by decide) rfl (fun ls hl => ?_)
      refine lv_aload_n hx hb dX0_show_30 rfl (lv_at hl 1 rfl) ?_
      refine lv_aload_n hx hb dX0_show_31 rfl (lv_at hl 0 rfl) ?_
      refine g_ci (va_runV (As := [.ref q9]) (rest := []) ⟨hx, hb, hml, hown, hts⟩ (metX0_refused (k := 1) (hS.mono hle_Fx_20) hA hq9 (by decide)) (cwV 1 hts (lw_V q589 q591 qs2 q87 q592) rfl rfl rfl (by decide +kernel) ⟨Nat.le_of_ble_eq_true rfl, Nat.le_of_ble_eq_true rfl⟩) (g_preV hG (g_recv hG (hG.vo hx0) (ci := 0) rfl)) rfl rfl hl.1 rfl (lv_room (Nat.le_of_ble_eq_true rfl)) dX0_show_32 ⟨by show _ ≤ 8; omega, by show _ ≤ 1200; omega⟩) hG (fun r_22 F_23 V_24 ws_ H locs hp hG => ?_)
      obtain ⟨rfl, rfl, hS9, rfl⟩ := hp
      have hG : gW X Fx_20 V_24 (Z) s H locs := hG
      refine vx_ret ?_
      exact g_iret hx hb hr hlocks hG (by have e9 : opShow a v mm = aNoR a 1 := (by unfold opShow; rw [if_pos (by omega)]); rw [e9]; exact ⟨hle_Fx_20, rfl, hS9.ex, rfl⟩) ⟨by show _ ≤ 8; omega, by show _ ≤ 1200; omega⟩ dX0_show_35
    exact hp.elim

set_option maxHeartbeats 4000000 in
theorem metX0_holds {l : Launch} {X : gX} {F : gF} {V : gV} {Z : va_W} {x sa rf tr tb kl wa rv rk st : Nat} {sh ra la ma : Nat → Nat} {im : Option Nat} {a : aS} (hS : xS X F V x a sa rf tr tb kl wa rv rk st sh ra la ma im) (hA : aOK a) {v : Int} (hrv : (-2147483648 ≤ v ∧ v < 2147483648)) : Met l yX0_holds (ws_ yX0_holds cX0_holds 3 (some FieldType.int)) ({ frames := 1, cells := 0, slots := 0, locals := 20 }) (gP X F V (Z) [.ref x, .int (zI v)]) (gQi X (fun u G U ws => gLe F G ∧ u = zI (opHolds a v) ∧ xX X G U x a ∧ Z = ws)) 0 0 (gA X) := by
  refine Met.g (by decide) (Nat.le_of_ble_eq_true rfl) ?_
  intro p e s m below meth c ls hx hb hr hts hown hlocks hml hin hG hl
  have hl : lv_has ls 3 [(0, .ref x), (1, .int (zI v))] := hl
  have hSA := hS
  obtain ⟨hx0, ⟨fs9, hx1, hsh⟩, ⟨gr9, hx2, hgr⟩, hx3, hx4, hW, hx6, hx7⟩ := hSA
  have hSA := hS
  have hK := hA.w
  have hNN := hK.n
  have hMM := hK.m
  refine lv_iload_n hx hb dX0_holds_0 rfl (lv_at hl 1 rfl) ?_
  refine g_lt (tgt := 22) hx hb dX0_holds_1 (by decide) (by omega) (fun h1 => ?_) (fun h1 => ?_)
  · refine lv_iconst (v := zI (-1)) hx hb dX0_holds_22 (by decide +kernel) ?_
    exact g_iret hx hb hr hlocks hG (by have e9 : opHolds a v = -1 := (by unfold opHolds; rw [if_pos (by omega)]); rw [e9]; exact ⟨gLe.rfl (V := V), rfl, hS.ex, rfl⟩) ⟨Nat.le_of_ble_eq_true rfl, Nat.le_of_ble_eq_true rfl⟩ dX0_holds_23
  · refine lv_iload_n hx hb dX0_holds_4 rfl (lv_at hl 1 rfl) ?_
    refine lv_bipush (v := zI 8) hx hb dX0_holds_5 (by decide +kernel) ?_
    refine g_cge (tgt := 22) hx hb dX0_holds_7 (by decide) (by omega) (fun h2 => ?_) (fun h2 => ?_)
    · refine lv_iconst (v := zI (-1)) hx hb dX0_holds_22 (by decide +kernel) ?_
      exact g_iret hx hb hr hlocks hG (by have e9 : opHolds a v = -1 := (by unfold opHolds; rw [if_pos (by omega)]); rw [e9]; exact ⟨gLe.rfl (V := V), rfl, hS.ex, rfl⟩) ⟨Nat.le_of_ble_eq_true rfl, Nat.le_of_ble_eq_true rfl⟩ dX0_holds_23
    · obtain ⟨v1, rfl⟩ : ∃ z : Nat, v = (z : Int) := ⟨v.toNat, by omega⟩
      have hx7v := hx7 v1 (by omega)
      have hok7 := hA.2.1 v1
      have hMk7 := hW.2.2.2.2.2
      rcases hsvv : aSv a v1 with _ | m1 | ⟨so1, n9, f9⟩
      · rw [hsvv] at hx7v
        have hsv : V (20 + v1) = some (sh v1, oB 3 [.null]) := hx7v
        refine lv_aload_n hx hb dX0_holds_10 rfl (lv_at hl 0 rfl) ?_
        refine g_get (ci := 0) hx hb hts in_X0 hown hG (hG.vo hx0) rfl 0 (Nat.le_of_ble_eq_true rfl) (hts _ q384) (fun _ h9 => h9) rfl dX0_holds_11 ?_
        refine lv_iload_n hx hb dX0_holds_14 rfl (lv_at hl 1 rfl) ?_
        refine g_aald hx hb hG 9 rfl rfl (hG.fz hx1) v1 ⟨rfl, by omega, by omega⟩ (v := .ref (sh v1)) (congrArg va_rf (hsh v1 (by omega))) dX0_holds_15 ?_
        refine g_get (ci := 3) hx hb hts in_X3 hown hG (hG.vo hsv) rfl 0 (Nat.le_of_ble_eq_true rfl) (hts _ q380) (fun _ h9 => h9) rfl dX0_holds_16 ?_
        refine lv_ifnonnullN hx hb dX0_holds_19 ?_
        refine lv_iconst (v := zI (-1)) hx hb dX0_holds_22 (by decide +kernel) ?_
        exact g_iret hx hb hr hlocks hG (by have e9 : opHolds a (v1 : Int) = -1 := (by unfold opHolds; rw [if_neg (by omega), show aSv a ((v1 : Nat) : Int).toNat = none from hsvv]; first | done | rfl | (first | done | rfl)); rw [e9]; exact ⟨gLe.rfl (V := V), rfl, hS.ex, rfl⟩) ⟨Nat.le_of_ble_eq_true rfl, Nat.le_of_ble_eq_true rfl⟩ dX0_holds_23
      · rw [hsvv] at hx7v hok7
        have hm1 : m1 < wM (aWd a) := hok7
        have hsv : V (20 + v1) = some (sh v1, oB 3 [.ref (ma m1)]) := hx7v
        have hrm1 := hMk7 m1 hm1
        have hkd1 := (hK.rk hm1).1
        refine lv_aload_n hx hb dX0_holds_10 rfl (lv_at hl 0 rfl) ?_
        refine g_get (ci := 0) hx hb hts in_X0 hown hG (hG.vo hx0) rfl 0 (Nat.le_of_ble_eq_true rfl) (hts _ q384) (fun _ h9 => h9) rfl dX0_holds_11 ?_
        refine lv_iload_n hx hb dX0_holds_14 rfl (lv_at hl 1 rfl) ?_
        refine g_aald hx hb hG 9 rfl rfl (hG.fz hx1) v1 ⟨rfl, by omega, by omega⟩ (v := .ref (sh v1)) (congrArg va_rf (hsh v1 (by omega))) dX0_holds_15 ?_
        refine g_get (ci := 3) hx hb hts in_X3 hown hG (hG.vo hsv) rfl 0 (Nat.le_of_ble_eq_true rfl) (hts _ q380) (fun _ h9 => h9) rfl dX0_holds_16 ?_
        refine lv_ifnonnull (tgt := 24) hx hb dX0_holds_19 (by decide) ?_
        refine lv_aload_n hx hb dX0_holds_24 rfl (lv_at hl 0 rfl) ?_
        refine g_get (ci := 0) hx hb hts in_X0 hown hG (hG.vo hx0) rfl 0 (Nat.le_of_ble_eq_true rfl) (hts _ q384) (fun _ h9 => h9) rfl dX0_holds_25 ?_
        refine lv_iload_n hx hb dX0_holds_28 rfl (lv_at hl 1 rfl) ?_
        refine g_aald hx hb hG 9 rfl rfl (hG.fz hx1) v1 ⟨rfl, by omega, by omega⟩ (v := .ref (sh v1)) (congrArg va_rf (hsh v1 (by omega))) dX0_holds_29 ?_
        refine g_get (ci := 3) hx hb hts in_X3 hown hG (hG.vo hsv) rfl 0 (Nat.le_of_ble_eq_true rfl) (hts _ q380) (fun _ h9 => h9) rfl dX0_holds_30 ?_
        refine lv_astore_n (lv' := [(2, .ref (ma m1)), (0, .ref x), (1, .int (zI (v1 : Int)))]) hx hb dX0_holds_33 rfl hl (by decide) rfl (fun ls hl => ?_)
        refine lv_aload_n hx hb dX0_holds_34 rfl (lv_at hl 0 rfl) ?_
        refine g_instR hx hb hown (hts _ q712) hkd1 (hG.fz hrm1) hG dX0_holds_35 ?_
        refine g_eq (tgt := 51) hx hb dX0_holds_38 (by decide) (by decide) (fun h3 => ?_) (fun h3 => ?_)
        · exfalso; omega
        · refine lv_aload_n hx hb dX0_holds_41 rfl (lv_at hl 0 rfl) ?_
          refine g_castR hx hb hown (hts _ q712) hkd1 (hG.fz hrm1) hG dX0_holds_42 ?_
          refine g_rmget hx hb hkd1 hts hown hG (hG.fz hrm1) 0 (by decide) (hts _ q2066) rfl dX0_holds_45 ?_
          refine lv_goto (tgt := 61) hx hb dX0_holds_48 (by decide) ?_
          exact g_iret hx hb hr hlocks hG (by have e9 : opHolds a (v1 : Int) = (m1 : Int) := (by unfold opHolds; rw [if_neg (by omega), show aSv a ((v1 : Nat) : Int).toNat = some (.inl m1) from hsvv]; first | done | rfl | (first | done | rfl)); rw [e9]; exact ⟨gLe.rfl (V := V), rfl, hS.ex, rfl⟩) ⟨Nat.le_of_ble_eq_true rfl, Nat.le_of_ble_eq_true rfl⟩ dX0_holds_61
      · rw [hsvv] at hx7v hok7
        obtain ⟨ro, ar, hsv, hro, hVr, hfx⟩ := hx7v
        obtain ⟨hso, hn160⟩ : so1 ≤ 3 ∧ n9 ≤ 160 := hok7
        refine lv_aload_n hx hb dX0_holds_10 rfl (lv_at hl 0 rfl) ?_
        refine g_get (ci := 0) hx hb hts in_X0 hown hG (hG.vo hx0) rfl 0 (Nat.le_of_ble_eq_true rfl) (hts _ q384) (fun _ h9 => h9) rfl dX0_holds_11 ?_
        refine lv_iload_n hx hb dX0_holds_14 rfl (lv_at hl 1 rfl) ?_
        refine g_aald hx hb hG 9 rfl rfl (hG.fz hx1) v1 ⟨rfl, by omega, by omega⟩ (v := .ref (sh v1)) (congrArg va_rf (hsh v1 (by omega))) dX0_holds_15 ?_
        refine g_get (ci := 3) hx hb hts in_X3 hown hG (hG.vo hsv) rfl 0 (Nat.le_of_ble_eq_true rfl) (hts _ q380) (fun _ h9 => h9) rfl dX0_holds_16 ?_
        refine lv_ifnonnull (tgt := 24) hx hb dX0_holds_19 (by decide) ?_
        refine lv_aload_n hx hb dX0_holds_24 rfl (lv_at hl 0 rfl) ?_
        refine g_get (ci := 0) hx hb hts in_X0 hown hG (hG.vo hx0) rfl 0 (Nat.le_of_ble_eq_true rfl) (hts _ q384) (fun _ h9 => h9) rfl dX0_holds_25 ?_
        refine lv_iload_n hx hb dX0_holds_28 rfl (lv_at hl 1 rfl) ?_
        refine g_aald hx hb hG 9 rfl rfl (hG.fz hx1) v1 ⟨rfl, by omega, by omega⟩ (v := .ref (sh v1)) (congrArg va_rf (hsh v1 (by omega))) dX0_holds_29 ?_
        refine g_get (ci := 3) hx hb hts in_X3 hown hG (hG.vo hsv) rfl 0 (Nat.le_of_ble_eq_true rfl) (hts _ q380) (fun _ h9 => h9) rfl dX0_holds_30 ?_
        refine lv_astore_n (lv' := [(2, .ref ro), (0, .ref x), (1, .int (zI (v1 : Int)))]) hx hb dX0_holds_33 rfl hl (by decide) rfl (fun ls hl => ?_)
        refine lv_aload_n hx hb dX0_holds_34 rfl (lv_at hl 0 rfl) ?_
        refine va_instNo hx hb hown (hts _ q712) ((gW_xt hG).2.2.2.1 _ (rw_nc0 hso)) (rw_recv hG hso hro) dX0_holds_35 ?_
        refine lv_topx (zI 0) (by decide +kernel) ?_
        refine g_eq (tgt := 51) hx hb dX0_holds_38 (by decide) (by decide) (fun h3 => ?_) (fun h3 => ?_)
        · refine lv_bipush (v := zI 100) hx hb dX0_holds_51 (by decide +kernel) ?_
          refine lv_aload_n hx hb dX0_holds_53 rfl (lv_at hl 0 rfl) ?_
          refine va_castY hx hb hown (hts _ q713) (hG.1.2.1.1 _ (rw_cast hso)) (rw_recv hG hso hro) dX0_holds_54 ?_
          refine g_ci (run_row_sort hso hro hVr ⟨hx, hb, hml, hown, hts⟩ q644 hG ⟨Nat.le_of_ble_eq_true rfl, Nat.le_of_ble_eq_true rfl⟩ hl.1 (lv_room (Nat.le_of_ble_eq_true rfl)) dX0_holds_57 ⟨Nat.le_of_ble_eq_true rfl, Nat.le_of_ble_eq_true rfl⟩) hG (fun r_1 F_2 V_3 ws_ H locs hp hG => ?_)
          obtain ⟨rfl, rfl, rfl, rfl⟩ := hp
          have hG : gW X F V (Z) s H locs := hG
          refine g_iadd hx hb dX0_holds_60 ?_
          exact g_iret hx hb hr hlocks hG (by have e9 : opHolds a (v1 : Int) = 100 + ((so1 : Nat) : Int) := (by unfold opHolds; rw [if_neg (by omega), show aSv a ((v1 : Nat) : Int).toNat = some (.inr (so1, n9, f9)) from hsvv]; first | done | rfl | (first | done | rfl)); rw [e9]; exact ⟨gLe.rfl (V := V), rfl, hS.ex, rfl⟩) ⟨Nat.le_of_ble_eq_true rfl, Nat.le_of_ble_eq_true rfl⟩ dX0_holds_61
        · exfalso; omega

set_option maxHeartbeats 4000000 in
theorem metX0_says {l : Launch} {X : gX} {F : gF} {V : gV} {Z : va_W} {x sa rf tr tb kl wa rv rk st : Nat} {sh ra la ma : Nat → Nat} {im : Option Nat} {a : aS} (hS : xS X F V x a sa rf tr tb kl wa rv rk st sh ra la ma im) (hA : aOK a) (hst : l.stackTraces = false) {v kk : Int} (hrv : (-2147483648 ≤ v ∧ v < 2147483648)) (hrkk : (-2147483648 ≤ kk ∧ kk < 2147483648)) : vx_Met l yX0_says (wsW_ yX0_says cX0_says 4 (some FieldType.int) [(0, 24, 25, 21)]) ({ frames := 9, cells := 8, slots := 1200, locals := 10278 }) (gP X F V (Z) [.ref x, .int (zI v), .int (zI kk)]) (gQi X (fun u G U ws => gLe F G ∧ u = zI (opSays a v kk).1 ∧ xX X G U x (opSays a v kk).2 ∧ Z = ws)) (gXc X (fun _ _ _ _ _ => False)) 8 1200 (gA X) := by
  refine vx_Met.gH (by decide) (Nat.le_of_ble_eq_true rfl) ?_
  intro p e s m below meth c ls hx hb hr hts hown hlocks hml hin htab hG hl
  have hl : lv_has ls 4 [(0, .ref x), (1, .int (zI v)), (2, .int (zI kk))] := hl
  have hSA := hS
  obtain ⟨hx0, ⟨fs9, hx1, hsh⟩, ⟨gr9, hx2, hgr⟩, hx3, hx4, hW, hx6, hx7⟩ := hSA
  have hSA := hS
  have hK := hA.w
  have hNN := hK.n
  have hMM := hK.m
  refine lv_aload_n hx hb dX0_says_0 rfl (lv_at hl 0 rfl) ?_
  refine lv_iload_n hx hb dX0_says_1 rfl (lv_at hl 1 rfl) ?_
  by_cases hv7 : 0 ≤ v ∧ v ≤ 7
  · obtain ⟨v1, rfl⟩ : ∃ z : Nat, v = (z : Int) := ⟨v.toNat, by omega⟩
    refine g_xr (vx_runVX (As := [.int (zI (v1 : Int))]) (rest := []) ⟨hx, hb, hml, hown, hts⟩ (metX0_shelf_t (v := v1) hS hA (by omega)) (vx_cwVW 1 hts (lw_VW q411 q413 qs0 q87 q414) rfl rfl rfl (by decide +kernel) ⟨Nat.le_of_ble_eq_true rfl, Nat.le_of_ble_eq_true rfl⟩) (g_preV hG (g_recv hG (hG.vo hx0) (ci := 0) rfl)) rfl rfl hl.1 rfl (lv_room (Nat.le_of_ble_eq_true rfl)) dX0_says_2 ⟨by show _ ≤ 8; omega, by show _ ≤ 1200; omega⟩) hG (fun E9 ce9 q9 Fx_4 Vx_5 ws_ H locs hpx hG hce => ?_) (fun r_1 F_2 V_3 ws_ H locs hp hG => ?_)
    · exact hpx.elim
    obtain ⟨rfl, rfl, rfl, rfl⟩ := hp
    have hG : gW X F V (Z) s H locs := hG
    refine lv_astore_n (lv' := [(3, .ref (sh v1)), (0, .ref x), (1, .int (zI (v1 : Int))), (2, .int (zI kk))]) hx hb dX0_says_5 rfl hl (by decide) rfl (fun ls hl => ?_)
    refine lv_iload_n hx hb dX0_says_6 rfl (lv_at hl 3 rfl) ?_
    refine g_i2l hx hb dX0_says_7 (by omega) ?_
    refine lv_lconst (v := zL 0) hx hb dX0_says_8 (by decide +kernel) ?_
    refine lv_ldc2 (v := 6) hx hb hown (hts _ q718) dX0_says_9 ?_
    refine g_topv (y := .long (zL 6)) (congrArg Value.long (by decide +kernel)) ?_
    by_cases hk6 : 0 ≤ kk ∧ kk ≤ 6
    · refine g_ci (va_runS (As := [.long (zL kk), .long (zL 0), .long (zL 6)]) (rest := []) ⟨hx, hb, hml, hown, hts⟩ (metX0_in (a9 := kk) (b9 := 0) (c9 := 6) (by omega)) (va_cwS 3 hts (lw_S q524 q525 q87 q526) rfl rfl rfl (by decide +kernel) ⟨Nat.le_of_ble_eq_true rfl, Nat.le_of_ble_eq_true rfl⟩) (g_preS hG) rfl rfl hl.1 rfl (lv_room (Nat.le_of_ble_eq_true rfl)) dX0_says_12 ⟨by show _ ≤ 8; omega, by show _ ≤ 1200; omega⟩) hG (fun r_6 F_7 V_8 ws_ H locs hp hG => ?_)
      obtain ⟨rfl, rfl, rfl, rfl⟩ := hp
      have hG : gW X F V (Z) s H locs := hG
      refine g_topz (y := 1) (by rw [decide_eq_true (by omega)]; rfl) ?_
      refine lv_iconst (v := zI (-1)) hx hb dX0_says_15 (by decide +kernel) ?_
      refine g_cv (va_runS (As := [.int (zI 1), .int (zI (-1))]) (rest := []) ⟨hx, hb, hml, hown, hts⟩ (metX0_need_t (b := 1) (by decide)) (va_cwS 2 hts (lw_S q520 q521 q87 q522) rfl rfl rfl (by decide +kernel) ⟨Nat.le_of_ble_eq_true rfl, Nat.le_of_ble_eq_true rfl⟩) (g_preS hG) rfl rfl hl.1 rfl (lv_room (Nat.le_of_ble_eq_true rfl)) dX0_says_16 ⟨by show _ ≤ 8; omega, by show _ ≤ 1200; omega⟩) hG (fun F_10 V_11 ws_ H locs hp hG => ?_)
      obtain ⟨rfl, rfl, rfl⟩ := hp
      have hG : gW X F V (Z) s H locs := hG
      rcases (show kk = 0 ∨ kk = 1 ∨ kk = 2 ∨ kk = 3 ∨ kk = 4 ∨ kk = 5 ∨ kk = 6 by omega) with hq | hq | hq | hq | hq | hq | hq
      · have hk9 : kk = 0 := by omega
        subst hk9
        have hx7v := hx7 v1 (by omega)
        have hok7 := hA.2.1 v1
        have hMk7 := hW.2.2.2.2.2
        rcases hsvv : aSv a v1 with _ | m1 | ⟨so1, n9, f9⟩
        · rw [hsvv] at hx7v
          have hsv : V (20 + v1) = some (sh v1, oB 3 [.null]) := hx7v
          refine lv_aload_n hx hb dX0_says_19 rfl (lv_at hl 0 rfl) ?_
          refine lv_iload_n hx hb dX0_says_20 rfl (lv_at hl 3 rfl) ?_
          refine g_xi (vx_runVX (As := [.int (zI 0)]) (rest := []) ⟨hx, hb, hml, hown, hts⟩ (metX3_says_n0 (rj := 20 + v1) hsv) (vx_cwVW 1 hts (lw_VW q719 q720 q721 q101 q722) rfl rfl rfl (by decide +kernel) ⟨Nat.le_of_ble_eq_true rfl, Nat.le_of_ble_eq_true rfl⟩) (g_preV hG (g_recv hG (hG.vo hsv) (ci := 3) rfl)) rfl rfl hl.1 rfl (lv_room (Nat.le_of_ble_eq_true rfl)) dX0_says_21 ⟨by show _ ≤ 8; omega, by show _ ≤ 1200; omega⟩) hG (fun E9 ce9 q9 Fx_15 Vx_16 ws_ H locs hpx hG hce => ?_) (fun r_12 F_13 V_14 ws_ H locs hp hG => ?_)
          · obtain ⟨rfl, hle_Fx_15, hq9, rfl, rfl⟩ := hpx
            have hG : gW X Fx_15 V (Z) s H locs := hG
            refine g_catch (name := "LineRemarks$Refused") hown htab [] ⟨0, 24, 25, 21⟩ [] rfl (fun z9 hz9 => absurd hz9 List.not_mem_nil) (by decide) (by decide) (hts _ q410) (hG.1.2.1.1 _ qn498) hce ?_
            refine lv_astore_n (lv' := [(3, .ref q9), (0, .ref x), (1, .int (zI (v1 : Int))), (2, .int (zI 0))]) hx hb dX0_says_25 rfl hl (by decide) rfl (fun ls hl => ?_)
            refine lv_aload_n hx hb dX0_says_26 rfl (lv_at hl 1 rfl) ?_
            refine lv_aload_n hx hb dX0_says_27 rfl (lv_at hl 0 rfl) ?_
            refine g_ci (va_runV (As := [.ref q9]) (rest := []) ⟨hx, hb, hml, hown, hts⟩ (metX0_refused (k := 3) (hS.mono hle_Fx_15) hA hq9 (by decide)) (cwV 1 hts (lw_V q589 q591 qs2 q87 q592) rfl rfl rfl (by decide +kernel) ⟨Nat.le_of_ble_eq_true rfl, Nat.le_of_ble_eq_true rfl⟩) (g_preV hG (g_recv hG (hG.vo hx0) (ci := 0) rfl)) rfl rfl hl.1 rfl (lv_room (Nat.le_of_ble_eq_true rfl)) dX0_says_28 ⟨by show _ ≤ 8; omega, by show _ ≤ 1200; omega⟩) hG (fun r_17 F_18 V_19 ws_ H locs hp hG => ?_)
            obtain ⟨rfl, rfl, hS9, rfl⟩ := hp
            have hG : gW X Fx_15 V_19 (Z) s H locs := hG
            refine vx_ret ?_
            exact g_iret hx hb hr hlocks hG (by have e9 : opSays a (v1 : Int) 0 = aNoR a 3 := (by unfold opSays; rw [if_neg (by omega), if_neg (by omega), show aSv a ((v1 : Nat) : Int).toNat = none from hsvv]; first | done | rfl | (first | done | rfl)); rw [e9]; exact ⟨hle_Fx_15, rfl, hS9.ex, rfl⟩) ⟨by show _ ≤ 8; omega, by show _ ≤ 1200; omega⟩ dX0_says_31
          exact hp.elim
        · rw [hsvv] at hx7v hok7
          have hm1 : m1 < wM (aWd a) := hok7
          have hsv : V (20 + v1) = some (sh v1, oB 3 [.ref (ma m1)]) := hx7v
          have hrm1 := hMk7 m1 hm1
          have hkd1 := (hK.rk hm1).1
          cases hu : aUnd ((rKind (wRk (aWd a) m1) : Nat) : Int) 0
          · exact absurd (decide_eq_true (Or.inr (Or.inl rfl))) (by unfold aUnd at hu; rw [hu]; decide)
          · have hu9 := of_decide_eq_true hu
            rcases (show rKind (wRk (aWd a) m1) = 0 ∨ rKind (wRk (aWd a) m1) = 1 ∨ rKind (wRk (aWd a) m1) = 2 ∨ rKind (wRk (aWd a) m1) = 3 ∨ rKind (wRk (aWd a) m1) = 4 ∨ rKind (wRk (aWd a) m1) = 5 ∨ rKind (wRk (aWd a) m1) = 6 by omega) with hd9 | hd9 | hd9 | hd9 | hd9 | hd9 | hd9
            · rw [hd9] at hrm1
              refine lv_aload_n hx hb dX0_says_19 rfl (lv_at hl 0 rfl) ?_
              refine lv_iload_n hx hb dX0_says_20 rfl (lv_at hl 3 rfl) ?_
              refine g_xi (vx_runVX (As := [.int (zI 0)]) (rest := []) ⟨hx, hb, hml, hown, hts⟩ (metX3_says_t0_0 (rj := 20 + v1) hsv hrm1) (vx_cwVW 1 hts (lw_VW q719 q720 q721 q101 q722) rfl rfl rfl (by decide +kernel) ⟨Nat.le_of_ble_eq_true rfl, Nat.le_of_ble_eq_true rfl⟩) (g_preV hG (g_recv hG (hG.vo hsv) (ci := 3) rfl)) rfl rfl hl.1 rfl (lv_room (Nat.le_of_ble_eq_true rfl)) dX0_says_21 ⟨by show _ ≤ 8; omega, by show _ ≤ 1200; omega⟩) hG (fun E9 ce9 q9 Fx_23 Vx_24 ws_ H locs hpx hG hce => ?_) (fun r_20 F_21 V_22 ws_ H locs hp hG => ?_)
              · exact hpx.elim
              obtain ⟨rfl, rfl, rfl, rfl⟩ := hp
              have hG : gW X F V (Z) s H locs := hG
              refine vx_ret ?_
              exact g_iret hx hb hr hlocks hG (by have e9 : opSays a (v1 : Int) 0 = ((rP (wRk (aWd a) m1) : Int), a) := (by unfold opSays; rw [if_neg (by omega), if_neg (by omega), show aSv a ((v1 : Nat) : Int).toNat = some (.inl m1) from hsvv]; first | done | rfl | (show (if _ then _ else _) = _; rw [if_pos hu]; first | done | rfl)); rw [e9]; exact ⟨(gLe.rfl (V := V)), rfl, (hS).ex, rfl⟩) ⟨by show _ ≤ 8; omega, by show _ ≤ 1200; omega⟩ dX0_says_24
            · rw [hd9] at hrm1
              refine lv_aload_n hx hb dX0_says_19 rfl (lv_at hl 0 rfl) ?_
              refine lv_iload_n hx hb dX0_says_20 rfl (lv_at hl 3 rfl) ?_
              refine g_xi (vx_runVX (As := [.int (zI 0)]) (rest := []) ⟨hx, hb, hml, hown, hts⟩ (metX3_says_t0_1 (rj := 20 + v1) hsv hrm1) (vx_cwVW 1 hts (lw_VW q719 q720 q721 q101 q722) rfl rfl rfl (by decide +kernel) ⟨Nat.le_of_ble_eq_true rfl, Nat.le_of_ble_eq_true rfl⟩) (g_preV hG (g_recv hG (hG.vo hsv) (ci := 3) rfl)) rfl rfl hl.1 rfl (lv_room (Nat.le_of_ble_eq_true rfl)) dX0_says_21 ⟨by show _ ≤ 8; omega, by show _ ≤ 1200; omega⟩) hG (fun E9 ce9 q9 Fx_28 Vx_29 ws_ H locs hpx hG hce => ?_) (fun r_25 F_26 V_27 ws_ H locs hp hG => ?_)
              · exact hpx.elim
              obtain ⟨rfl, rfl, rfl, rfl⟩ := hp
              have hG : gW X F V (Z) s H locs := hG
              refine vx_ret ?_
              exact g_iret hx hb hr hlocks hG (by have e9 : opSays a (v1 : Int) 0 = ((rP (wRk (aWd a) m1) : Int), a) := (by unfold opSays; rw [if_neg (by omega), if_neg (by omega), show aSv a ((v1 : Nat) : Int).toNat = some (.inl m1) from hsvv]; first | done | rfl | (show (if _ then _ else _) = _; rw [if_pos hu]; first | done | rfl)); rw [e9]; exact ⟨(gLe.rfl (V := V)), rfl, (hS).ex, rfl⟩) ⟨by show _ ≤ 8; omega, by show _ ≤ 1200; omega⟩ dX0_says_24
            · rw [hd9] at hrm1
              refine lv_aload_n hx hb dX0_says_19 rfl (lv_at hl 0 rfl) ?_
              refine lv_iload_n hx hb dX0_says_20 rfl (lv_at hl 3 rfl) ?_
              refine g_xi (vx_runVX (As := [.int (zI 0)]) (rest := []) ⟨hx, hb, hml, hown, hts⟩ (metX3_says_t0_2 (rj := 20 + v1) hsv hrm1) (vx_cwVW 1 hts (lw_VW q719 q720 q721 q101 q722) rfl rfl rfl (by decide +kernel) ⟨Nat.le_of_ble_eq_true rfl, Nat.le_of_ble_eq_true rfl⟩) (g_preV hG (g_recv hG (hG.vo hsv) (ci := 3) rfl)) rfl rfl hl.1 rfl (lv_room (Nat.le_of_ble_eq_true rfl)) dX0_says_21 ⟨by show _ ≤ 8; omega, by show _ ≤ 1200; omega⟩) hG (fun E9 ce9 q9 Fx_33 Vx_34 ws_ H locs hpx hG hce => ?_) (fun r_30 F_31 V_32 ws_ H locs hp hG => ?_)
              · exact hpx.elim
              obtain ⟨rfl, rfl, rfl, rfl⟩ := hp
              have hG : gW X F V (Z) s H locs := hG
              refine vx_ret ?_
              exact g_iret hx hb hr hlocks hG (by have e9 : opSays a (v1 : Int) 0 = ((rP (wRk (aWd a) m1) : Int), a) := (by unfold opSays; rw [if_neg (by omega), if_neg (by omega), show aSv a ((v1 : Nat) : Int).toNat = some (.inl m1) from hsvv]; first | done | rfl | (show (if _ then _ else _) = _; rw [if_pos hu]; first | done | rfl)); rw [e9]; exact ⟨(gLe.rfl (V := V)), rfl, (hS).ex, rfl⟩) ⟨by show _ ≤ 8; omega, by show _ ≤ 1200; omega⟩ dX0_says_24
            · rw [hd9] at hrm1
              refine lv_aload_n hx hb dX0_says_19 rfl (lv_at hl 0 rfl) ?_
              refine lv_iload_n hx hb dX0_says_20 rfl (lv_at hl 3 rfl) ?_
              refine g_xi (vx_runVX (As := [.int (zI 0)]) (rest := []) ⟨hx, hb, hml, hown, hts⟩ (metX3_says_t0_3 (rj := 20 + v1) hsv hrm1) (vx_cwVW 1 hts (lw_VW q719 q720 q721 q101 q722) rfl rfl rfl (by decide +kernel) ⟨Nat.le_of_ble_eq_true rfl, Nat.le_of_ble_eq_true rfl⟩) (g_preV hG (g_recv hG (hG.vo hsv) (ci := 3) rfl)) rfl rfl hl.1 rfl (lv_room (Nat.le_of_ble_eq_true rfl)) dX0_says_21 ⟨by show _ ≤ 8; omega, by show _ ≤ 1200; omega⟩) hG (fun E9 ce9 q9 Fx_38 Vx_39 ws_ H locs hpx hG hce => ?_) (fun r_35 F_36 V_37 ws_ H locs hp hG => ?_)
              · exact hpx.elim
              obtain ⟨rfl, rfl, rfl, rfl⟩ := hp
              have hG : gW X F V (Z) s H locs := hG
              refine vx_ret ?_
              exact g_iret hx hb hr hlocks hG (by have e9 : opSays a (v1 : Int) 0 = ((rP (wRk (aWd a) m1) : Int), a) := (by unfold opSays; rw [if_neg (by omega), if_neg (by omega), show aSv a ((v1 : Nat) : Int).toNat = some (.inl m1) from hsvv]; first | done | rfl | (show (if _ then _ else _) = _; rw [if_pos hu]; first | done | rfl)); rw [e9]; exact ⟨(gLe.rfl (V := V)), rfl, (hS).ex, rfl⟩) ⟨by show _ ≤ 8; omega, by show _ ≤ 1200; omega⟩ dX0_says_24
            · rw [hd9] at hrm1
              refine lv_aload_n hx hb dX0_says_19 rfl (lv_at hl 0 rfl) ?_
              refine lv_iload_n hx hb dX0_says_20 rfl (lv_at hl 3 rfl) ?_
              refine g_xi (vx_runVX (As := [.int (zI 0)]) (rest := []) ⟨hx, hb, hml, hown, hts⟩ (metX3_says_t0_4 (rj := 20 + v1) hsv hrm1) (vx_cwVW 1 hts (lw_VW q719 q720 q721 q101 q722) rfl rfl rfl (by decide +kernel) ⟨Nat.le_of_ble_eq_true rfl, Nat.le_of_ble_eq_true rfl⟩) (g_preV hG (g_recv hG (hG.vo hsv) (ci := 3) rfl)) rfl rfl hl.1 rfl (lv_room (Nat.le_of_ble_eq_true rfl)) dX0_says_21 ⟨by show _ ≤ 8; omega, by show _ ≤ 1200; omega⟩) hG (fun E9 ce9 q9 Fx_43 Vx_44 ws_ H locs hpx hG hce => ?_) (fun r_40 F_41 V_42 ws_ H locs hp hG => ?_)
              · exact hpx.elim
              obtain ⟨rfl, rfl, rfl, rfl⟩ := hp
              have hG : gW X F V (Z) s H locs := hG
              refine vx_ret ?_
              exact g_iret hx hb hr hlocks hG (by have e9 : opSays a (v1 : Int) 0 = ((rP (wRk (aWd a) m1) : Int), a) := (by unfold opSays; rw [if_neg (by omega), if_neg (by omega), show aSv a ((v1 : Nat) : Int).toNat = some (.inl m1) from hsvv]; first | done | rfl | (show (if _ then _ else _) = _; rw [if_pos hu]; first | done | rfl)); rw [e9]; exact ⟨(gLe.rfl (V := V)), rfl, (hS).ex, rfl⟩) ⟨by show _ ≤ 8; omega, by show _ ≤ 1200; omega⟩ dX0_says_24
            · rw [hd9] at hrm1
              refine lv_aload_n hx hb dX0_says_19 rfl (lv_at hl 0 rfl) ?_
              refine lv_iload_n hx hb dX0_says_20 rfl (lv_at hl 3 rfl) ?_
              refine g_xi (vx_runVX (As := [.int (zI 0)]) (rest := []) ⟨hx, hb, hml, hown, hts⟩ (metX3_says_t0_5 (rj := 20 + v1) hsv hrm1) (vx_cwVW 1 hts (lw_VW q719 q720 q721 q101 q722) rfl rfl rfl (by decide +kernel) ⟨Nat.le_of_ble_eq_true rfl, Nat.le_of_ble_eq_true rfl⟩) (g_preV hG (g_recv hG (hG.vo hsv) (ci := 3) rfl)) rfl rfl hl.1 rfl (lv_room (Nat.le_of_ble_eq_true rfl)) dX0_says_21 ⟨by show _ ≤ 8; omega, by show _ ≤ 1200; omega⟩) hG (fun E9 ce9 q9 Fx_48 Vx_49 ws_ H locs hpx hG hce => ?_) (fun r_45 F_46 V_47 ws_ H locs hp hG => ?_)
              · exact hpx.elim
              obtain ⟨rfl, rfl, rfl, rfl⟩ := hp
              have hG : gW X F V (Z) s H locs := hG
              refine vx_ret ?_
              exact g_iret hx hb hr hlocks hG (by have e9 : opSays a (v1 : Int) 0 = ((rP (wRk (aWd a) m1) : Int), a) := (by unfold opSays; rw [if_neg (by omega), if_neg (by omega), show aSv a ((v1 : Nat) : Int).toNat = some (.inl m1) from hsvv]; first | done | rfl | (show (if _ then _ else _) = _; rw [if_pos hu]; first | done | rfl)); rw [e9]; exact ⟨(gLe.rfl (V := V)), rfl, (hS).ex, rfl⟩) ⟨by show _ ≤ 8; omega, by show _ ≤ 1200; omega⟩ dX0_says_24
            · rw [hd9] at hrm1
              refine lv_aload_n hx hb dX0_says_19 rfl (lv_at hl 0 rfl) ?_
              refine lv_iload_n hx hb dX0_says_20 rfl (lv_at hl 3 rfl) ?_
              refine g_xi (vx_runVX (As := [.int (zI 0)]) (rest := []) ⟨hx, hb, hml, hown, hts⟩ (metX3_says_t0_6 (rj := 20 + v1) hsv hrm1) (vx_cwVW 1 hts (lw_VW q719 q720 q721 q101 q722) rfl rfl rfl (by decide +kernel) ⟨Nat.le_of_ble_eq_true rfl, Nat.le_of_ble_eq_true rfl⟩) (g_preV hG (g_recv hG (hG.vo hsv) (ci := 3) rfl)) rfl rfl hl.1 rfl (lv_room (Nat.le_of_ble_eq_true rfl)) dX0_says_21 ⟨by show _ ≤ 8; omega, by show _ ≤ 1200; omega⟩) hG (fun E9 ce9 q9 Fx_53 Vx_54 ws_ H locs hpx hG hce => ?_) (fun r_50 F_51 V_52 ws_ H locs hp hG => ?_)
              · exact hpx.elim
              obtain ⟨rfl, rfl, rfl, rfl⟩ := hp
              have hG : gW X F V (Z) s H locs := hG
              refine vx_ret ?_
              exact g_iret hx hb hr hlocks hG (by have e9 : opSays a (v1 : Int) 0 = ((rP (wRk (aWd a) m1) : Int), a) := (by unfold opSays; rw [if_neg (by omega), if_neg (by omega), show aSv a ((v1 : Nat) : Int).toNat = some (.inl m1) from hsvv]; first | done | rfl | (show (if _ then _ else _) = _; rw [if_pos hu]; first | done | rfl)); rw [e9]; exact ⟨(gLe.rfl (V := V)), rfl, (hS).ex, rfl⟩) ⟨by show _ ≤ 8; omega, by show _ ≤ 1200; omega⟩ dX0_says_24
        · rw [hsvv] at hx7v hok7
          obtain ⟨ro, ar, hsv, hro, hVr, hfx⟩ := hx7v
          obtain ⟨hso, hn160⟩ : so1 ≤ 3 ∧ n9 ≤ 160 := hok7
          refine lv_aload_n hx hb dX0_says_19 rfl (lv_at hl 0 rfl) ?_
          refine lv_iload_n hx hb dX0_says_20 rfl (lv_at hl 3 rfl) ?_
          refine g_xi (vx_runVX (As := [.int (zI 0)]) (rest := []) ⟨hx, hb, hml, hown, hts⟩ (metX3_says_f0 (rj := 20 + v1) hsv (rw_ncH0 hso hro) hst) (vx_cwVW 1 hts (lw_VW q719 q720 q721 q101 q722) rfl rfl rfl (by decide +kernel) ⟨Nat.le_of_ble_eq_true rfl, Nat.le_of_ble_eq_true rfl⟩) (g_preV hG (g_recv hG (hG.vo hsv) (ci := 3) rfl)) rfl rfl hl.1 rfl (lv_room (Nat.le_of_ble_eq_true rfl)) dX0_says_21 ⟨by show _ ≤ 8; omega, by show _ ≤ 1200; omega⟩) hG (fun E9 ce9 q9 Fx_58 Vx_59 ws_ H locs hpx hG hce => ?_) (fun r_55 F_56 V_57 ws_ H locs hp hG => ?_)
          · obtain ⟨rfl, hle_Fx_58, hq9, rfl, rfl⟩ := hpx
            have hG : gW X Fx_58 V (Z) s H locs := hG
            refine g_catch (name := "LineRemarks$Refused") hown htab [] ⟨0, 24, 25, 21⟩ [] rfl (fun z9 hz9 => absurd hz9 List.not_mem_nil) (by decide) (by decide) (hts _ q410) (hG.1.2.1.1 _ qn498) hce ?_
            refine lv_astore_n (lv' := [(3, .ref q9), (0, .ref x), (1, .int (zI (v1 : Int))), (2, .int (zI 0))]) hx hb dX0_says_25 rfl hl (by decide) rfl (fun ls hl => ?_)
            refine lv_aload_n hx hb dX0_says_26 rfl (lv_at hl 1 rfl) ?_
            refine lv_aload_n hx hb dX0_says_27 rfl (lv_at hl 0 rfl) ?_
            refine g_ci (va_runV (As := [.ref q9]) (rest := []) ⟨hx, hb, hml, hown, hts⟩ (metX0_refused (k := 2) (hS.mono hle_Fx_58) hA hq9 (by decide)) (cwV 1 hts (lw_V q589 q591 qs2 q87 q592) rfl rfl rfl (by decide +kernel) ⟨Nat.le_of_ble_eq_true rfl, Nat.le_of_ble_eq_true rfl⟩) (g_preV hG (g_recv hG (hG.vo hx0) (ci := 0) rfl)) rfl rfl hl.1 rfl (lv_room (Nat.le_of_ble_eq_true rfl)) dX0_says_28 ⟨by show _ ≤ 8; omega, by show _ ≤ 1200; omega⟩) hG (fun r_60 F_61 V_62 ws_ H locs hp hG => ?_)
            obtain ⟨rfl, rfl, hS9, rfl⟩ := hp
            have hG : gW X Fx_58 V_62 (Z) s H locs := hG
            refine vx_ret ?_
            exact g_iret hx hb hr hlocks hG (by have e9 : opSays a (v1 : Int) 0 = aNoR a 2 := (by unfold opSays; rw [if_neg (by omega), if_neg (by omega), show aSv a ((v1 : Nat) : Int).toNat = some (.inr (so1, n9, f9)) from hsvv]; first | done | rfl | (first | done | rfl)); rw [e9]; exact ⟨hle_Fx_58, rfl, hS9.ex, rfl⟩) ⟨by show _ ≤ 8; omega, by show _ ≤ 1200; omega⟩ dX0_says_31
          exact hp.elim
      · have hk9 : kk = 1 := by omega
        subst hk9
        have hx7v := hx7 v1 (by omega)
        have hok7 := hA.2.1 v1
        have hMk7 := hW.2.2.2.2.2
        rcases hsvv : aSv a v1 with _ | m1 | ⟨so1, n9, f9⟩
        · rw [hsvv] at hx7v
          have hsv : V (20 + v1) = some (sh v1, oB 3 [.null]) := hx7v
          refine lv_aload_n hx hb dX0_says_19 rfl (lv_at hl 0 rfl) ?_
          refine lv_iload_n hx hb dX0_says_20 rfl (lv_at hl 3 rfl) ?_
          refine g_xi (vx_runVX (As := [.int (zI 1)]) (rest := []) ⟨hx, hb, hml, hown, hts⟩ (metX3_says_n1 (rj := 20 + v1) hsv) (vx_cwVW 1 hts (lw_VW q719 q720 q721 q101 q722) rfl rfl rfl (by decide +kernel) ⟨Nat.le_of_ble_eq_true rfl, Nat.le_of_ble_eq_true rfl⟩) (g_preV hG (g_recv hG (hG.vo hsv) (ci := 3) rfl)) rfl rfl hl.1 rfl (lv_room (Nat.le_of_ble_eq_true rfl)) dX0_says_21 ⟨by show _ ≤ 8; omega, by show _ ≤ 1200; omega⟩) hG (fun E9 ce9 q9 Fx_66 Vx_67 ws_ H locs hpx hG hce => ?_) (fun r_63 F_64 V_65 ws_ H locs hp hG => ?_)
          · obtain ⟨rfl, hle_Fx_66, hq9, rfl, rfl⟩ := hpx
            have hG : gW X Fx_66 V (Z) s H locs := hG
            refine g_catch (name := "LineRemarks$Refused") hown htab [] ⟨0, 24, 25, 21⟩ [] rfl (fun z9 hz9 => absurd hz9 List.not_mem_nil) (by decide) (by decide) (hts _ q410) (hG.1.2.1.1 _ qn498) hce ?_
            refine lv_astore_n (lv' := [(3, .ref q9), (0, .ref x), (1, .int (zI (v1 : Int))), (2, .int (zI 1))]) hx hb dX0_says_25 rfl hl (by decide) rfl (fun ls hl => ?_)
            refine lv_aload_n hx hb dX0_says_26 rfl (lv_at hl 1 rfl) ?_
            refine lv_aload_n hx hb dX0_says_27 rfl (lv_at hl 0 rfl) ?_
            refine g_ci (va_runV (As := [.ref q9]) (rest := []) ⟨hx, hb, hml, hown, hts⟩ (metX0_refused (k := 3) (hS.mono hle_Fx_66) hA hq9 (by decide)) (cwV 1 hts (lw_V q589 q591 qs2 q87 q592) rfl rfl rfl (by decide +kernel) ⟨Nat.le_of_ble_eq_true rfl, Nat.le_of_ble_eq_true rfl⟩) (g_preV hG (g_recv hG (hG.vo hx0) (ci := 0) rfl)) rfl rfl hl.1 rfl (lv_room (Nat.le_of_ble_eq_true rfl)) dX0_says_28 ⟨by show _ ≤ 8; omega, by show _ ≤ 1200; omega⟩) hG (fun r_68 F_69 V_70 ws_ H locs hp hG => ?_)
            obtain ⟨rfl, rfl, hS9, rfl⟩ := hp
            have hG : gW X Fx_66 V_70 (Z) s H locs := hG
            refine vx_ret ?_
            exact g_iret hx hb hr hlocks hG (by have e9 : opSays a (v1 : Int) 1 = aNoR a 3 := (by unfold opSays; rw [if_neg (by omega), if_neg (by omega), show aSv a ((v1 : Nat) : Int).toNat = none from hsvv]; first | done | rfl | (first | done | rfl)); rw [e9]; exact ⟨hle_Fx_66, rfl, hS9.ex, rfl⟩) ⟨by show _ ≤ 8; omega, by show _ ≤ 1200; omega⟩ dX0_says_31
          exact hp.elim
        · rw [hsvv] at hx7v hok7
          have hm1 : m1 < wM (aWd a) := hok7
          have hsv : V (20 + v1) = some (sh v1, oB 3 [.ref (ma m1)]) := hx7v
          have hrm1 := hMk7 m1 hm1
          have hkd1 := (hK.rk hm1).1
          cases hu : aUnd ((rKind (wRk (aWd a) m1) : Nat) : Int) 1
          · refine lv_aload_n hx hb dX0_says_19 rfl (lv_at hl 0 rfl) ?_
            refine lv_iload_n hx hb dX0_says_20 rfl (lv_at hl 3 rfl) ?_
            refine g_xi (vx_runVX (As := [.int (zI 1)]) (rest := []) ⟨hx, hb, hml, hown, hts⟩ (metX3_says_f1 (rj := 20 + v1) hsv (rm_ncH1 hkd1 hu hrm1) hst) (vx_cwVW 1 hts (lw_VW q719 q720 q721 q101 q722) rfl rfl rfl (by decide +kernel) ⟨Nat.le_of_ble_eq_true rfl, Nat.le_of_ble_eq_true rfl⟩) (g_preV hG (g_recv hG (hG.vo hsv) (ci := 3) rfl)) rfl rfl hl.1 rfl (lv_room (Nat.le_of_ble_eq_true rfl)) dX0_says_21 ⟨by show _ ≤ 8; omega, by show _ ≤ 1200; omega⟩) hG (fun E9 ce9 q9 Fx_74 Vx_75 ws_ H locs hpx hG hce => ?_) (fun r_71 F_72 V_73 ws_ H locs hp hG => ?_)
            · obtain ⟨rfl, hle_Fx_74, hq9, rfl, rfl⟩ := hpx
              have hG : gW X Fx_74 V (Z) s H locs := hG
              refine g_catch (name := "LineRemarks$Refused") hown htab [] ⟨0, 24, 25, 21⟩ [] rfl (fun z9 hz9 => absurd hz9 List.not_mem_nil) (by decide) (by decide) (hts _ q410) (hG.1.2.1.1 _ qn498) hce ?_
              refine lv_astore_n (lv' := [(3, .ref q9), (0, .ref x), (1, .int (zI (v1 : Int))), (2, .int (zI 1))]) hx hb dX0_says_25 rfl hl (by decide) rfl (fun ls hl => ?_)
              refine lv_aload_n hx hb dX0_says_26 rfl (lv_at hl 1 rfl) ?_
              refine lv_aload_n hx hb dX0_says_27 rfl (lv_at hl 0 rfl) ?_
              refine g_ci (va_runV (As := [.ref q9]) (rest := []) ⟨hx, hb, hml, hown, hts⟩ (metX0_refused (k := 2) (hS.mono hle_Fx_74) hA hq9 (by decide)) (cwV 1 hts (lw_V q589 q591 qs2 q87 q592) rfl rfl rfl (by decide +kernel) ⟨Nat.le_of_ble_eq_true rfl, Nat.le_of_ble_eq_true rfl⟩) (g_preV hG (g_recv hG (hG.vo hx0) (ci := 0) rfl)) rfl rfl hl.1 rfl (lv_room (Nat.le_of_ble_eq_true rfl)) dX0_says_28 ⟨by show _ ≤ 8; omega, by show _ ≤ 1200; omega⟩) hG (fun r_76 F_77 V_78 ws_ H locs hp hG => ?_)
              obtain ⟨rfl, rfl, hS9, rfl⟩ := hp
              have hG : gW X Fx_74 V_78 (Z) s H locs := hG
              refine vx_ret ?_
              exact g_iret hx hb hr hlocks hG (by have e9 : opSays a (v1 : Int) 1 = aNoR a 2 := (by unfold opSays; rw [if_neg (by omega), if_neg (by omega), show aSv a ((v1 : Nat) : Int).toNat = some (.inl m1) from hsvv]; first | done | rfl | (show (if _ then _ else _) = _; rw [if_neg (by rw [hu]; decide)]; first | done | rfl)); rw [e9]; exact ⟨hle_Fx_74, rfl, hS9.ex, rfl⟩) ⟨by show _ ≤ 8; omega, by show _ ≤ 1200; omega⟩ dX0_says_31
            exact hp.elim
          · have hu9 := of_decide_eq_true hu
            rcases (show rKind (wRk (aWd a) m1) = 1 ∨ rKind (wRk (aWd a) m1) = 3 ∨ rKind (wRk (aWd a) m1) = 6 by omega) with hd9 | hd9 | hd9
            · rw [hd9] at hrm1
              refine lv_aload_n hx hb dX0_says_19 rfl (lv_at hl 0 rfl) ?_
              refine lv_iload_n hx hb dX0_says_20 rfl (lv_at hl 3 rfl) ?_
              refine g_xi (vx_runVX (As := [.int (zI 1)]) (rest := []) ⟨hx, hb, hml, hown, hts⟩ (metX3_says_t1_1 (rj := 20 + v1) hsv hrm1) (vx_cwVW 1 hts (lw_VW q719 q720 q721 q101 q722) rfl rfl rfl (by decide +kernel) ⟨Nat.le_of_ble_eq_true rfl, Nat.le_of_ble_eq_true rfl⟩) (g_preV hG (g_recv hG (hG.vo hsv) (ci := 3) rfl)) rfl rfl hl.1 rfl (lv_room (Nat.le_of_ble_eq_true rfl)) dX0_says_21 ⟨by show _ ≤ 8; omega, by show _ ≤ 1200; omega⟩) hG (fun E9 ce9 q9 Fx_82 Vx_83 ws_ H locs hpx hG hce => ?_) (fun r_79 F_80 V_81 ws_ H locs hp hG => ?_)
              · exact hpx.elim
              obtain ⟨rfl, rfl, rfl, rfl⟩ := hp
              have hG : gW X F V (Z) s H locs := hG
              refine vx_ret ?_
              exact g_iret hx hb hr hlocks hG (by have e9 : opSays a (v1 : Int) 1 = ((rBy (wRk (aWd a) m1) : Int), a) := (by unfold opSays; rw [if_neg (by omega), if_neg (by omega), show aSv a ((v1 : Nat) : Int).toNat = some (.inl m1) from hsvv]; first | done | rfl | (show (if _ then _ else _) = _; rw [if_pos hu]; first | done | rfl)); rw [e9]; exact ⟨(gLe.rfl (V := V)), rfl, (hS).ex, rfl⟩) ⟨by show _ ≤ 8; omega, by show _ ≤ 1200; omega⟩ dX0_says_24
            · rw [hd9] at hrm1
              refine lv_aload_n hx hb dX0_says_19 rfl (lv_at hl 0 rfl) ?_
              refine lv_iload_n hx hb dX0_says_20 rfl (lv_at hl 3 rfl) ?_
              refine g_xi (vx_runVX (As := [.int (zI 1)]) (rest := []) ⟨hx, hb, hml, hown, hts⟩ (metX3_says_t1_3 (rj := 20 + v1) hsv hrm1) (vx_cwVW 1 hts (lw_VW q719 q720 q721 q101 q722) rfl rfl rfl (by decide +kernel) ⟨Nat.le_of_ble_eq_true rfl, Nat.le_of_ble_eq_true rfl⟩) (g_preV hG (g_recv hG (hG.vo hsv) (ci := 3) rfl)) rfl rfl hl.1 rfl (lv_room (Nat.le_of_ble_eq_true rfl)) dX0_says_21 ⟨by show _ ≤ 8; omega, by show _ ≤ 1200; omega⟩) hG (fun E9 ce9 q9 Fx_87 Vx_88 ws_ H locs hpx hG hce => ?_) (fun r_84 F_85 V_86 ws_ H locs hp hG => ?_)
              · exact hpx.elim
              obtain ⟨rfl, rfl, rfl, rfl⟩ := hp
              have hG : gW X F V (Z) s H locs := hG
              refine vx_ret ?_
              exact g_iret hx hb hr hlocks hG (by have e9 : opSays a (v1 : Int) 1 = ((rBy (wRk (aWd a) m1) : Int), a) := (by unfold opSays; rw [if_neg (by omega), if_neg (by omega), show aSv a ((v1 : Nat) : Int).toNat = some (.inl m1) from hsvv]; first | done | rfl | (show (if _ then _ else _) = _; rw [if_pos hu]; first | done | rfl)); rw [e9]; exact ⟨(gLe.rfl (V := V)), rfl, (hS).ex, rfl⟩) ⟨by show _ ≤ 8; omega, by show _ ≤ 1200; omega⟩ dX0_says_24
            · rw [hd9] at hrm1
              refine lv_aload_n hx hb dX0_says_19 rfl (lv_at hl 0 rfl) ?_
              refine lv_iload_n hx hb dX0_says_20 rfl (lv_at hl 3 rfl) ?_
              refine g_xi (vx_runVX (As := [.int (zI 1)]) (rest := []) ⟨hx, hb, hml, hown, hts⟩ (metX3_says_t1_6 (rj := 20 + v1) hsv hrm1) (vx_cwVW 1 hts (lw_VW q719 q720 q721 q101 q722) rfl rfl rfl (by decide +kernel) ⟨Nat.le_of_ble_eq_true rfl, Nat.le_of_ble_eq_true rfl⟩) (g_preV hG (g_recv hG (hG.vo hsv) (ci := 3) rfl)) rfl rfl hl.1 rfl (lv_room (Nat.le_of_ble_eq_true rfl)) dX0_says_21 ⟨by show _ ≤ 8; omega, by show _ ≤ 1200; omega⟩) hG (fun E9 ce9 q9 Fx_92 Vx_93 ws_ H locs hpx hG hce => ?_) (fun r_89 F_90 V_91 ws_ H locs hp hG => ?_)
              · exact hpx.elim
              obtain ⟨rfl, rfl, rfl, rfl⟩ := hp
              have hG : gW X F V (Z) s H locs := hG
              refine vx_ret ?_
              exact g_iret hx hb hr hlocks hG (by have e9 : opSays a (v1 : Int) 1 = ((rBy (wRk (aWd a) m1) : Int), a) := (by unfold opSays; rw [if_neg (by omega), if_neg (by omega), show aSv a ((v1 : Nat) : Int).toNat = some (.inl m1) from hsvv]; first | done | rfl | (show (if _ then _ else _) = _; rw [if_pos hu]; first | done | rfl)); rw [e9]; exact ⟨(gLe.rfl (V := V)), rfl, (hS).ex, rfl⟩) ⟨by show _ ≤ 8; omega, by show _ ≤ 1200; omega⟩ dX0_says_24
        · rw [hsvv] at hx7v hok7
          obtain ⟨ro, ar, hsv, hro, hVr, hfx⟩ := hx7v
          obtain ⟨hso, hn160⟩ : so1 ≤ 3 ∧ n9 ≤ 160 := hok7
          refine lv_aload_n hx hb dX0_says_19 rfl (lv_at hl 0 rfl) ?_
          refine lv_iload_n hx hb dX0_says_20 rfl (lv_at hl 3 rfl) ?_
          refine g_xi (vx_runVX (As := [.int (zI 1)]) (rest := []) ⟨hx, hb, hml, hown, hts⟩ (metX3_says_f1 (rj := 20 + v1) hsv (rw_ncH1 hso hro) hst) (vx_cwVW 1 hts (lw_VW q719 q720 q721 q101 q722) rfl rfl rfl (by decide +kernel) ⟨Nat.le_of_ble_eq_true rfl, Nat.le_of_ble_eq_true rfl⟩) (g_preV hG (g_recv hG (hG.vo hsv) (ci := 3) rfl)) rfl rfl hl.1 rfl (lv_room (Nat.le_of_ble_eq_true rfl)) dX0_says_21 ⟨by show _ ≤ 8; omega, by show _ ≤ 1200; omega⟩) hG (fun E9 ce9 q9 Fx_97 Vx_98 ws_ H locs hpx hG hce => ?_) (fun r_94 F_95 V_96 ws_ H locs hp hG => ?_)
          · obtain ⟨rfl, hle_Fx_97, hq9, rfl, rfl⟩ := hpx
            have hG : gW X Fx_97 V (Z) s H locs := hG
            refine g_catch (name := "LineRemarks$Refused") hown htab [] ⟨0, 24, 25, 21⟩ [] rfl (fun z9 hz9 => absurd hz9 List.not_mem_nil) (by decide) (by decide) (hts _ q410) (hG.1.2.1.1 _ qn498) hce ?_
            refine lv_astore_n (lv' := [(3, .ref q9), (0, .ref x), (1, .int (zI (v1 : Int))), (2, .int (zI 1))]) hx hb dX0_says_25 rfl hl (by decide) rfl (fun ls hl => ?_)
            refine lv_aload_n hx hb dX0_says_26 rfl (lv_at hl 1 rfl) ?_
            refine lv_aload_n hx hb dX0_says_27 rfl (lv_at hl 0 rfl) ?_
            refine g_ci (va_runV (As := [.ref q9]) (rest := []) ⟨hx, hb, hml, hown, hts⟩ (metX0_refused (k := 2) (hS.mono hle_Fx_97) hA hq9 (by decide)) (cwV 1 hts (lw_V q589 q591 qs2 q87 q592) rfl rfl rfl (by decide +kernel) ⟨Nat.le_of_ble_eq_true rfl, Nat.le_of_ble_eq_true rfl⟩) (g_preV hG (g_recv hG (hG.vo hx0) (ci := 0) rfl)) rfl rfl hl.1 rfl (lv_room (Nat.le_of_ble_eq_true rfl)) dX0_says_28 ⟨by show _ ≤ 8; omega, by show _ ≤ 1200; omega⟩) hG (fun r_99 F_100 V_101 ws_ H locs hp hG => ?_)
            obtain ⟨rfl, rfl, hS9, rfl⟩ := hp
            have hG : gW X Fx_97 V_101 (Z) s H locs := hG
            refine vx_ret ?_
            exact g_iret hx hb hr hlocks hG (by have e9 : opSays a (v1 : Int) 1 = aNoR a 2 := (by unfold opSays; rw [if_neg (by omega), if_neg (by omega), show aSv a ((v1 : Nat) : Int).toNat = some (.inr (so1, n9, f9)) from hsvv]; first | done | rfl | (first | done | rfl)); rw [e9]; exact ⟨hle_Fx_97, rfl, hS9.ex, rfl⟩) ⟨by show _ ≤ 8; omega, by show _ ≤ 1200; omega⟩ dX0_says_31
          exact hp.elim
      · have hk9 : kk = 2 := by omega
        subst hk9
        have hx7v := hx7 v1 (by omega)
        have hok7 := hA.2.1 v1
        have hMk7 := hW.2.2.2.2.2
        rcases hsvv : aSv a v1 with _ | m1 | ⟨so1, n9, f9⟩
        · rw [hsvv] at hx7v
          have hsv : V (20 + v1) = some (sh v1, oB 3 [.null]) := hx7v
          refine lv_aload_n hx hb dX0_says_19 rfl (lv_at hl 0 rfl) ?_
          refine lv_iload_n hx hb dX0_says_20 rfl (lv_at hl 3 rfl) ?_
          refine g_xi (vx_runVX (As := [.int (zI 2)]) (rest := []) ⟨hx, hb, hml, hown, hts⟩ (metX3_says_n2 (rj := 20 + v1) hsv) (vx_cwVW 1 hts (lw_VW q719 q720 q721 q101 q722) rfl rfl rfl (by decide +kernel) ⟨Nat.le_of_ble_eq_true rfl, Nat.le_of_ble_eq_true rfl⟩) (g_preV hG (g_recv hG (hG.vo hsv) (ci := 3) rfl)) rfl rfl hl.1 rfl (lv_room (Nat.le_of_ble_eq_true rfl)) dX0_says_21 ⟨by show _ ≤ 8; omega, by show _ ≤ 1200; omega⟩) hG (fun E9 ce9 q9 Fx_105 Vx_106 ws_ H locs hpx hG hce => ?_) (fun r_102 F_103 V_104 ws_ H locs hp hG => ?_)
          · obtain ⟨rfl, hle_Fx_105, hq9, rfl, rfl⟩ := hpx
            have hG : gW X Fx_105 V (Z) s H locs := hG
            refine g_catch (name := "LineRemarks$Refused") hown htab [] ⟨0, 24, 25, 21⟩ [] rfl (fun z9 hz9 => absurd hz9 List.not_mem_nil) (by decide) (by decide) (hts _ q410) (hG.1.2.1.1 _ qn498) hce ?_
            refine lv_astore_n (lv' := [(3, .ref q9), (0, .ref x), (1, .int (zI (v1 : Int))), (2, .int (zI 2))]) hx hb dX0_says_25 rfl hl (by decide) rfl (fun ls hl => ?_)
            refine lv_aload_n hx hb dX0_says_26 rfl (lv_at hl 1 rfl) ?_
            refine lv_aload_n hx hb dX0_says_27 rfl (lv_at hl 0 rfl) ?_
            refine g_ci (va_runV (As := [.ref q9]) (rest := []) ⟨hx, hb, hml, hown, hts⟩ (metX0_refused (k := 3) (hS.mono hle_Fx_105) hA hq9 (by decide)) (cwV 1 hts (lw_V q589 q591 qs2 q87 q592) rfl rfl rfl (by decide +kernel) ⟨Nat.le_of_ble_eq_true rfl, Nat.le_of_ble_eq_true rfl⟩) (g_preV hG (g_recv hG (hG.vo hx0) (ci := 0) rfl)) rfl rfl hl.1 rfl (lv_room (Nat.le_of_ble_eq_true rfl)) dX0_says_28 ⟨by show _ ≤ 8; omega, by show _ ≤ 1200; omega⟩) hG (fun r_107 F_108 V_109 ws_ H locs hp hG => ?_)
            obtain ⟨rfl, rfl, hS9, rfl⟩ := hp
            have hG : gW X Fx_105 V_109 (Z) s H locs := hG
            refine vx_ret ?_
            exact g_iret hx hb hr hlocks hG (by have e9 : opSays a (v1 : Int) 2 = aNoR a 3 := (by unfold opSays; rw [if_neg (by omega), if_neg (by omega), show aSv a ((v1 : Nat) : Int).toNat = none from hsvv]; first | done | rfl | (first | done | rfl)); rw [e9]; exact ⟨hle_Fx_105, rfl, hS9.ex, rfl⟩) ⟨by show _ ≤ 8; omega, by show _ ≤ 1200; omega⟩ dX0_says_31
          exact hp.elim
        · rw [hsvv] at hx7v hok7
          have hm1 : m1 < wM (aWd a) := hok7
          have hsv : V (20 + v1) = some (sh v1, oB 3 [.ref (ma m1)]) := hx7v
          have hrm1 := hMk7 m1 hm1
          have hkd1 := (hK.rk hm1).1
          cases hu : aUnd ((rKind (wRk (aWd a) m1) : Nat) : Int) 2
          · refine lv_aload_n hx hb dX0_says_19 rfl (lv_at hl 0 rfl) ?_
            refine lv_iload_n hx hb dX0_says_20 rfl (lv_at hl 3 rfl) ?_
            refine g_xi (vx_runVX (As := [.int (zI 2)]) (rest := []) ⟨hx, hb, hml, hown, hts⟩ (metX3_says_f2 (rj := 20 + v1) hsv (rm_ncH2 hkd1 hu hrm1) hst) (vx_cwVW 1 hts (lw_VW q719 q720 q721 q101 q722) rfl rfl rfl (by decide +kernel) ⟨Nat.le_of_ble_eq_true rfl, Nat.le_of_ble_eq_true rfl⟩) (g_preV hG (g_recv hG (hG.vo hsv) (ci := 3) rfl)) rfl rfl hl.1 rfl (lv_room (Nat.le_of_ble_eq_true rfl)) dX0_says_21 ⟨by show _ ≤ 8; omega, by show _ ≤ 1200; omega⟩) hG (fun E9 ce9 q9 Fx_113 Vx_114 ws_ H locs hpx hG hce => ?_) (fun r_110 F_111 V_112 ws_ H locs hp hG => ?_)
            · obtain ⟨rfl, hle_Fx_113, hq9, rfl, rfl⟩ := hpx
              have hG : gW X Fx_113 V (Z) s H locs := hG
              refine g_catch (name := "LineRemarks$Refused") hown htab [] ⟨0, 24, 25, 21⟩ [] rfl (fun z9 hz9 => absurd hz9 List.not_mem_nil) (by decide) (by decide) (hts _ q410) (hG.1.2.1.1 _ qn498) hce ?_
              refine lv_astore_n (lv' := [(3, .ref q9), (0, .ref x), (1, .int (zI (v1 : Int))), (2, .int (zI 2))]) hx hb dX0_says_25 rfl hl (by decide) rfl (fun ls hl => ?_)
              refine lv_aload_n hx hb dX0_says_26 rfl (lv_at hl 1 rfl) ?_
              refine lv_aload_n hx hb dX0_says_27 rfl (lv_at hl 0 rfl) ?_
              refine g_ci (va_runV (As := [.ref q9]) (rest := []) ⟨hx, hb, hml, hown, hts⟩ (metX0_refused (k := 2) (hS.mono hle_Fx_113) hA hq9 (by decide)) (cwV 1 hts (lw_V q589 q591 qs2 q87 q592) rfl rfl rfl (by decide +kernel) ⟨Nat.le_of_ble_eq_true rfl, Nat.le_of_ble_eq_true rfl⟩) (g_preV hG (g_recv hG (hG.vo hx0) (ci := 0) rfl)) rfl rfl hl.1 rfl (lv_room (Nat.le_of_ble_eq_true rfl)) dX0_says_28 ⟨by show _ ≤ 8; omega, by show _ ≤ 1200; omega⟩) hG (fun r_115 F_116 V_117 ws_ H locs hp hG => ?_)
              obtain ⟨rfl, rfl, hS9, rfl⟩ := hp
              have hG : gW X Fx_113 V_117 (Z) s H locs := hG
              refine vx_ret ?_
              exact g_iret hx hb hr hlocks hG (by have e9 : opSays a (v1 : Int) 2 = aNoR a 2 := (by unfold opSays; rw [if_neg (by omega), if_neg (by omega), show aSv a ((v1 : Nat) : Int).toNat = some (.inl m1) from hsvv]; first | done | rfl | (show (if _ then _ else _) = _; rw [if_neg (by rw [hu]; decide)]; first | done | rfl)); rw [e9]; exact ⟨hle_Fx_113, rfl, hS9.ex, rfl⟩) ⟨by show _ ≤ 8; omega, by show _ ≤ 1200; omega⟩ dX0_says_31
            exact hp.elim
          · have hu9 := of_decide_eq_true hu
            rcases (show rKind (wRk (aWd a) m1) = 2 ∨ rKind (wRk (aWd a) m1) = 5 by omega) with hd9 | hd9
            · rw [hd9] at hrm1
              refine lv_aload_n hx hb dX0_says_19 rfl (lv_at hl 0 rfl) ?_
              refine lv_iload_n hx hb dX0_says_20 rfl (lv_at hl 3 rfl) ?_
              refine g_xi (vx_runVX (As := [.int (zI 2)]) (rest := []) ⟨hx, hb, hml, hown, hts⟩ (metX3_says_t2_2 (rj := 20 + v1) hsv hrm1) (vx_cwVW 1 hts (lw_VW q719 q720 q721 q101 q722) rfl rfl rfl (by decide +kernel) ⟨Nat.le_of_ble_eq_true rfl, Nat.le_of_ble_eq_true rfl⟩) (g_preV hG (g_recv hG (hG.vo hsv) (ci := 3) rfl)) rfl rfl hl.1 rfl (lv_room (Nat.le_of_ble_eq_true rfl)) dX0_says_21 ⟨by show _ ≤ 8; omega, by show _ ≤ 1200; omega⟩) hG (fun E9 ce9 q9 Fx_121 Vx_122 ws_ H locs hpx hG hce => ?_) (fun r_118 F_119 V_120 ws_ H locs hp hG => ?_)
              · exact hpx.elim
              obtain ⟨rfl, rfl, rfl, rfl⟩ := hp
              have hG : gW X F V (Z) s H locs := hG
              refine vx_ret ?_
              exact g_iret hx hb hr hlocks hG (by have e9 : opSays a (v1 : Int) 2 = (((rQ (wRk (aWd a) m1) : Int) - (rP (wRk (aWd a) m1) : Int) + 1), a) := (by unfold opSays; rw [if_neg (by omega), if_neg (by omega), show aSv a ((v1 : Nat) : Int).toNat = some (.inl m1) from hsvv]; first | done | rfl | (show (if _ then _ else _) = _; rw [if_pos hu]; first | done | rfl)); rw [e9]; exact ⟨(gLe.rfl (V := V)), rfl, (hS).ex, rfl⟩) ⟨by show _ ≤ 8; omega, by show _ ≤ 1200; omega⟩ dX0_says_24
            · rw [hd9] at hrm1
              refine lv_aload_n hx hb dX0_says_19 rfl (lv_at hl 0 rfl) ?_
              refine lv_iload_n hx hb dX0_says_20 rfl (lv_at hl 3 rfl) ?_
              refine g_xi (vx_runVX (As := [.int (zI 2)]) (rest := []) ⟨hx, hb, hml, hown, hts⟩ (metX3_says_t2_5 (rj := 20 + v1) hsv hrm1) (vx_cwVW 1 hts (lw_VW q719 q720 q721 q101 q722) rfl rfl rfl (by decide +kernel) ⟨Nat.le_of_ble_eq_true rfl, Nat.le_of_ble_eq_true rfl⟩) (g_preV hG (g_recv hG (hG.vo hsv) (ci := 3) rfl)) rfl rfl hl.1 rfl (lv_room (Nat.le_of_ble_eq_true rfl)) dX0_says_21 ⟨by show _ ≤ 8; omega, by show _ ≤ 1200; omega⟩) hG (fun E9 ce9 q9 Fx_126 Vx_127 ws_ H locs hpx hG hce => ?_) (fun r_123 F_124 V_125 ws_ H locs hp hG => ?_)
              · exact hpx.elim
              obtain ⟨rfl, rfl, rfl, rfl⟩ := hp
              have hG : gW X F V (Z) s H locs := hG
              refine vx_ret ?_
              exact g_iret hx hb hr hlocks hG (by have e9 : opSays a (v1 : Int) 2 = (((rQ (wRk (aWd a) m1) : Int) - (rP (wRk (aWd a) m1) : Int) + 1), a) := (by unfold opSays; rw [if_neg (by omega), if_neg (by omega), show aSv a ((v1 : Nat) : Int).toNat = some (.inl m1) from hsvv]; first | done | rfl | (show (if _ then _ else _) = _; rw [if_pos hu]; first | done | rfl)); rw [e9]; exact ⟨(gLe.rfl (V := V)), rfl, (hS).ex, rfl⟩) ⟨by show _ ≤ 8; omega, by show _ ≤ 1200; omega⟩ dX0_says_24
        · rw [hsvv] at hx7v hok7
          obtain ⟨ro, ar, hsv, hro, hVr, hfx⟩ := hx7v
          obtain ⟨hso, hn160⟩ : so1 ≤ 3 ∧ n9 ≤ 160 := hok7
          refine lv_aload_n hx hb dX0_says_19 rfl (lv_at hl 0 rfl) ?_
          refine lv_iload_n hx hb dX0_says_20 rfl (lv_at hl 3 rfl) ?_
          refine g_xi (vx_runVX (As := [.int (zI 2)]) (rest := []) ⟨hx, hb, hml, hown, hts⟩ (metX3_says_f2 (rj := 20 + v1) hsv (rw_ncH2 hso hro) hst) (vx_cwVW 1 hts (lw_VW q719 q720 q721 q101 q722) rfl rfl rfl (by decide +kernel) ⟨Nat.le_of_ble_eq_true rfl, Nat.le_of_ble_eq_true rfl⟩) (g_preV hG (g_recv hG (hG.vo hsv) (ci := 3) rfl)) rfl rfl hl.1 rfl (lv_room (Nat.le_of_ble_eq_true rfl)) dX0_says_21 ⟨by show _ ≤ 8; omega, by show _ ≤ 1200; omega⟩) hG (fun E9 ce9 q9 Fx_131 Vx_132 ws_ H locs hpx hG hce => ?_) (fun r_128 F_129 V_130 ws_ H locs hp hG => ?_)
          · obtain ⟨rfl, hle_Fx_131, hq9, rfl, rfl⟩ := hpx
            have hG : gW X Fx_131 V (Z) s H locs := hG
            refine g_catch (name := "LineRemarks$Refused") hown htab [] ⟨0, 24, 25, 21⟩ [] rfl (fun z9 hz9 => absurd hz9 List.not_mem_nil) (by decide) (by decide) (hts _ q410) (hG.1.2.1.1 _ qn498) hce ?_
            refine lv_astore_n (lv' := [(3, .ref q9), (0, .ref x), (1, .int (zI (v1 : Int))), (2, .int (zI 2))]) hx hb dX0_says_25 rfl hl (by decide) rfl (fun ls hl => ?_)
            refine lv_aload_n hx hb dX0_says_26 rfl (lv_at hl 1 rfl) ?_
            refine lv_aload_n hx hb dX0_says_27 rfl (lv_at hl 0 rfl) ?_
            refine g_ci (va_runV (As := [.ref q9]) (rest := []) ⟨hx, hb, hml, hown, hts⟩ (metX0_refused (k := 2) (hS.mono hle_Fx_131) hA hq9 (by decide)) (cwV 1 hts (lw_V q589 q591 qs2 q87 q592) rfl rfl rfl (by decide +kernel) ⟨Nat.le_of_ble_eq_true rfl, Nat.le_of_ble_eq_true rfl⟩) (g_preV hG (g_recv hG (hG.vo hx0) (ci := 0) rfl)) rfl rfl hl.1 rfl (lv_room (Nat.le_of_ble_eq_true rfl)) dX0_says_28 ⟨by show _ ≤ 8; omega, by show _ ≤ 1200; omega⟩) hG (fun r_133 F_134 V_135 ws_ H locs hp hG => ?_)
            obtain ⟨rfl, rfl, hS9, rfl⟩ := hp
            have hG : gW X Fx_131 V_135 (Z) s H locs := hG
            refine vx_ret ?_
            exact g_iret hx hb hr hlocks hG (by have e9 : opSays a (v1 : Int) 2 = aNoR a 2 := (by unfold opSays; rw [if_neg (by omega), if_neg (by omega), show aSv a ((v1 : Nat) : Int).toNat = some (.inr (so1, n9, f9)) from hsvv]; first | done | rfl | (first | done | rfl)); rw [e9]; exact ⟨hle_Fx_131, rfl, hS9.ex, rfl⟩) ⟨by show _ ≤ 8; omega, by show _ ≤ 1200; omega⟩ dX0_says_31
          exact hp.elim
      · have hk9 : kk = 3 := by omega
        subst hk9
        have hx7v := hx7 v1 (by omega)
        have hok7 := hA.2.1 v1
        have hMk7 := hW.2.2.2.2.2
        rcases hsvv : aSv a v1 with _ | m1 | ⟨so1, n9, f9⟩
        · rw [hsvv] at hx7v
          have hsv : V (20 + v1) = some (sh v1, oB 3 [.null]) := hx7v
          refine lv_aload_n hx hb dX0_says_19 rfl (lv_at hl 0 rfl) ?_
          refine lv_iload_n hx hb dX0_says_20 rfl (lv_at hl 3 rfl) ?_
          refine g_xi (vx_runVX (As := [.int (zI 3)]) (rest := []) ⟨hx, hb, hml, hown, hts⟩ (metX3_says_n3 (rj := 20 + v1) hsv) (vx_cwVW 1 hts (lw_VW q719 q720 q721 q101 q722) rfl rfl rfl (by decide +kernel) ⟨Nat.le_of_ble_eq_true rfl, Nat.le_of_ble_eq_true rfl⟩) (g_preV hG (g_recv hG (hG.vo hsv) (ci := 3) rfl)) rfl rfl hl.1 rfl (lv_room (Nat.le_of_ble_eq_true rfl)) dX0_says_21 ⟨by show _ ≤ 8; omega, by show _ ≤ 1200; omega⟩) hG (fun E9 ce9 q9 Fx_139 Vx_140 ws_ H locs hpx hG hce => ?_) (fun r_136 F_137 V_138 ws_ H locs hp hG => ?_)
          · obtain ⟨rfl, hle_Fx_139, hq9, rfl, rfl⟩ := hpx
            have hG : gW X Fx_139 V (Z) s H locs := hG
            refine g_catch (name := "LineRemarks$Refused") hown htab [] ⟨0, 24, 25, 21⟩ [] rfl (fun z9 hz9 => absurd hz9 List.not_mem_nil) (by decide) (by decide) (hts _ q410) (hG.1.2.1.1 _ qn498) hce ?_
            refine lv_astore_n (lv' := [(3, .ref q9), (0, .ref x), (1, .int (zI (v1 : Int))), (2, .int (zI 3))]) hx hb dX0_says_25 rfl hl (by decide) rfl (fun ls hl => ?_)
            refine lv_aload_n hx hb dX0_says_26 rfl (lv_at hl 1 rfl) ?_
            refine lv_aload_n hx hb dX0_says_27 rfl (lv_at hl 0 rfl) ?_
            refine g_ci (va_runV (As := [.ref q9]) (rest := []) ⟨hx, hb, hml, hown, hts⟩ (metX0_refused (k := 3) (hS.mono hle_Fx_139) hA hq9 (by decide)) (cwV 1 hts (lw_V q589 q591 qs2 q87 q592) rfl rfl rfl (by decide +kernel) ⟨Nat.le_of_ble_eq_true rfl, Nat.le_of_ble_eq_true rfl⟩) (g_preV hG (g_recv hG (hG.vo hx0) (ci := 0) rfl)) rfl rfl hl.1 rfl (lv_room (Nat.le_of_ble_eq_true rfl)) dX0_says_28 ⟨by show _ ≤ 8; omega, by show _ ≤ 1200; omega⟩) hG (fun r_141 F_142 V_143 ws_ H locs hp hG => ?_)
            obtain ⟨rfl, rfl, hS9, rfl⟩ := hp
            have hG : gW X Fx_139 V_143 (Z) s H locs := hG
            refine vx_ret ?_
            exact g_iret hx hb hr hlocks hG (by have e9 : opSays a (v1 : Int) 3 = aNoR a 3 := (by unfold opSays; rw [if_neg (by omega), if_neg (by omega), show aSv a ((v1 : Nat) : Int).toNat = none from hsvv]; first | done | rfl | (first | done | rfl)); rw [e9]; exact ⟨hle_Fx_139, rfl, hS9.ex, rfl⟩) ⟨by show _ ≤ 8; omega, by show _ ≤ 1200; omega⟩ dX0_says_31
          exact hp.elim
        · rw [hsvv] at hx7v hok7
          have hm1 : m1 < wM (aWd a) := hok7
          have hsv : V (20 + v1) = some (sh v1, oB 3 [.ref (ma m1)]) := hx7v
          have hrm1 := hMk7 m1 hm1
          have hkd1 := (hK.rk hm1).1
          cases hu : aUnd ((rKind (wRk (aWd a) m1) : Nat) : Int) 3
          · refine lv_aload_n hx hb dX0_says_19 rfl (lv_at hl 0 rfl) ?_
            refine lv_iload_n hx hb dX0_says_20 rfl (lv_at hl 3 rfl) ?_
            refine g_xi (vx_runVX (As := [.int (zI 3)]) (rest := []) ⟨hx, hb, hml, hown, hts⟩ (metX3_says_f3 (rj := 20 + v1) hsv (rm_ncH3 hkd1 hu hrm1) hst) (vx_cwVW 1 hts (lw_VW q719 q720 q721 q101 q722) rfl rfl rfl (by decide +kernel) ⟨Nat.le_of_ble_eq_true rfl, Nat.le_of_ble_eq_true rfl⟩) (g_preV hG (g_recv hG (hG.vo hsv) (ci := 3) rfl)) rfl rfl hl.1 rfl (lv_room (Nat.le_of_ble_eq_true rfl)) dX0_says_21 ⟨by show _ ≤ 8; omega, by show _ ≤ 1200; omega⟩) hG (fun E9 ce9 q9 Fx_147 Vx_148 ws_ H locs hpx hG hce => ?_) (fun r_144 F_145 V_146 ws_ H locs hp hG => ?_)
            · obtain ⟨rfl, hle_Fx_147, hq9, rfl, rfl⟩ := hpx
              have hG : gW X Fx_147 V (Z) s H locs := hG
              refine g_catch (name := "LineRemarks$Refused") hown htab [] ⟨0, 24, 25, 21⟩ [] rfl (fun z9 hz9 => absurd hz9 List.not_mem_nil) (by decide) (by decide) (hts _ q410) (hG.1.2.1.1 _ qn498) hce ?_
              refine lv_astore_n (lv' := [(3, .ref q9), (0, .ref x), (1, .int (zI (v1 : Int))), (2, .int (zI 3))]) hx hb dX0_says_25 rfl hl (by decide) rfl (fun ls hl => ?_)
              refine lv_aload_n hx hb dX0_says_26 rfl (lv_at hl 1 rfl) ?_
              refine lv_aload_n hx hb dX0_says_27 rfl (lv_at hl 0 rfl) ?_
              refine g_ci (va_runV (As := [.ref q9]) (rest := []) ⟨hx, hb, hml, hown, hts⟩ (metX0_refused (k := 2) (hS.mono hle_Fx_147) hA hq9 (by decide)) (cwV 1 hts (lw_V q589 q591 qs2 q87 q592) rfl rfl rfl (by decide +kernel) ⟨Nat.le_of_ble_eq_true rfl, Nat.le_of_ble_eq_true rfl⟩) (g_preV hG (g_recv hG (hG.vo hx0) (ci := 0) rfl)) rfl rfl hl.1 rfl (lv_room (Nat.le_of_ble_eq_true rfl)) dX0_says_28 ⟨by show _ ≤ 8; omega, by show _ ≤ 1200; omega⟩) hG (fun r_149 F_150 V_151 ws_ H locs hp hG => ?_)
              obtain ⟨rfl, rfl, hS9, rfl⟩ := hp
              have hG : gW X Fx_147 V_151 (Z) s H locs := hG
              refine vx_ret ?_
              exact g_iret hx hb hr hlocks hG (by have e9 : opSays a (v1 : Int) 3 = aNoR a 2 := (by unfold opSays; rw [if_neg (by omega), if_neg (by omega), show aSv a ((v1 : Nat) : Int).toNat = some (.inl m1) from hsvv]; first | done | rfl | (show (if _ then _ else _) = _; rw [if_neg (by rw [hu]; decide)]; first | done | rfl)); rw [e9]; exact ⟨hle_Fx_147, rfl, hS9.ex, rfl⟩) ⟨by show _ ≤ 8; omega, by show _ ≤ 1200; omega⟩ dX0_says_31
            exact hp.elim
          · have hu9 := of_decide_eq_true hu
            rcases (show rKind (wRk (aWd a) m1) = 3 ∨ rKind (wRk (aWd a) m1) = 6 by omega) with hd9 | hd9
            · rw [hd9] at hrm1
              refine lv_aload_n hx hb dX0_says_19 rfl (lv_at hl 0 rfl) ?_
              refine lv_iload_n hx hb dX0_says_20 rfl (lv_at hl 3 rfl) ?_
              refine g_xi (vx_runVX (As := [.int (zI 3)]) (rest := []) ⟨hx, hb, hml, hown, hts⟩ (metX3_says_t3_3 (rj := 20 + v1) hsv hrm1) (vx_cwVW 1 hts (lw_VW q719 q720 q721 q101 q722) rfl rfl rfl (by decide +kernel) ⟨Nat.le_of_ble_eq_true rfl, Nat.le_of_ble_eq_true rfl⟩) (g_preV hG (g_recv hG (hG.vo hsv) (ci := 3) rfl)) rfl rfl hl.1 rfl (lv_room (Nat.le_of_ble_eq_true rfl)) dX0_says_21 ⟨by show _ ≤ 8; omega, by show _ ≤ 1200; omega⟩) hG (fun E9 ce9 q9 Fx_155 Vx_156 ws_ H locs hpx hG hce => ?_) (fun r_152 F_153 V_154 ws_ H locs hp hG => ?_)
              · exact hpx.elim
              obtain ⟨rfl, rfl, rfl, rfl⟩ := hp
              have hG : gW X F V (Z) s H locs := hG
              refine vx_ret ?_
              exact g_iret hx hb hr hlocks hG (by have e9 : opSays a (v1 : Int) 3 = ((rBy (wRk (aWd a) m1) : Int), a) := (by unfold opSays; rw [if_neg (by omega), if_neg (by omega), show aSv a ((v1 : Nat) : Int).toNat = some (.inl m1) from hsvv]; first | done | rfl | (show (if _ then _ else _) = _; rw [if_pos hu]; first | done | rfl)); rw [e9]; exact ⟨(gLe.rfl (V := V)), rfl, (hS).ex, rfl⟩) ⟨by show _ ≤ 8; omega, by show _ ≤ 1200; omega⟩ dX0_says_24
            · rw [hd9] at hrm1
              refine lv_aload_n hx hb dX0_says_19 rfl (lv_at hl 0 rfl) ?_
              refine lv_iload_n hx hb dX0_says_20 rfl (lv_at hl 3 rfl) ?_
              refine g_xi (vx_runVX (As := [.int (zI 3)]) (rest := []) ⟨hx, hb, hml, hown, hts⟩ (metX3_says_t3_6 (rj := 20 + v1) hsv hrm1) (vx_cwVW 1 hts (lw_VW q719 q720 q721 q101 q722) rfl rfl rfl (by decide +kernel) ⟨Nat.le_of_ble_eq_true rfl, Nat.le_of_ble_eq_true rfl⟩) (g_preV hG (g_recv hG (hG.vo hsv) (ci := 3) rfl)) rfl rfl hl.1 rfl (lv_room (Nat.le_of_ble_eq_true rfl)) dX0_says_21 ⟨by show _ ≤ 8; omega, by show _ ≤ 1200; omega⟩) hG (fun E9 ce9 q9 Fx_160 Vx_161 ws_ H locs hpx hG hce => ?_) (fun r_157 F_158 V_159 ws_ H locs hp hG => ?_)
              · exact hpx.elim
              obtain ⟨rfl, rfl, rfl, rfl⟩ := hp
              have hG : gW X F V (Z) s H locs := hG
              refine vx_ret ?_
              exact g_iret hx hb hr hlocks hG (by have e9 : opSays a (v1 : Int) 3 = ((rBy (wRk (aWd a) m1) : Int), a) := (by unfold opSays; rw [if_neg (by omega), if_neg (by omega), show aSv a ((v1 : Nat) : Int).toNat = some (.inl m1) from hsvv]; first | done | rfl | (show (if _ then _ else _) = _; rw [if_pos hu]; first | done | rfl)); rw [e9]; exact ⟨(gLe.rfl (V := V)), rfl, (hS).ex, rfl⟩) ⟨by show _ ≤ 8; omega, by show _ ≤ 1200; omega⟩ dX0_says_24
        · rw [hsvv] at hx7v hok7
          obtain ⟨ro, ar, hsv, hro, hVr, hfx⟩ := hx7v
          obtain ⟨hso, hn160⟩ : so1 ≤ 3 ∧ n9 ≤ 160 := hok7
          refine lv_aload_n hx hb dX0_says_19 rfl (lv_at hl 0 rfl) ?_
          refine lv_iload_n hx hb dX0_says_20 rfl (lv_at hl 3 rfl) ?_
          refine g_xi (vx_runVX (As := [.int (zI 3)]) (rest := []) ⟨hx, hb, hml, hown, hts⟩ (metX3_says_f3 (rj := 20 + v1) hsv (rw_ncH3 hso hro) hst) (vx_cwVW 1 hts (lw_VW q719 q720 q721 q101 q722) rfl rfl rfl (by decide +kernel) ⟨Nat.le_of_ble_eq_true rfl, Nat.le_of_ble_eq_true rfl⟩) (g_preV hG (g_recv hG (hG.vo hsv) (ci := 3) rfl)) rfl rfl hl.1 rfl (lv_room (Nat.le_of_ble_eq_true rfl)) dX0_says_21 ⟨by show _ ≤ 8; omega, by show _ ≤ 1200; omega⟩) hG (fun E9 ce9 q9 Fx_165 Vx_166 ws_ H locs hpx hG hce => ?_) (fun r_162 F_163 V_164 ws_ H locs hp hG => ?_)
          · obtain ⟨rfl, hle_Fx_165, hq9, rfl, rfl⟩ := hpx
            have hG : gW X Fx_165 V (Z) s H locs := hG
            refine g_catch (name := "LineRemarks$Refused") hown htab [] ⟨0, 24, 25, 21⟩ [] rfl (fun z9 hz9 => absurd hz9 List.not_mem_nil) (by decide) (by decide) (hts _ q410) (hG.1.2.1.1 _ qn498) hce ?_
            refine lv_astore_n (lv' := [(3, .ref q9), (0, .ref x), (1, .int (zI (v1 : Int))), (2, .int (zI 3))]) hx hb dX0_says_25 rfl hl (by decide) rfl (fun ls hl => ?_)
            refine lv_aload_n hx hb dX0_says_26 rfl (lv_at hl 1 rfl) ?_
            refine lv_aload_n hx hb dX0_says_27 rfl (lv_at hl 0 rfl) ?_
            refine g_ci (va_runV (As := [.ref q9]) (rest := []) ⟨hx, hb, hml, hown, hts⟩ (metX0_refused (k := 2) (hS.mono hle_Fx_165) hA hq9 (by decide)) (cwV 1 hts (lw_V q589 q591 qs2 q87 q592) rfl rfl rfl (by decide +kernel) ⟨Nat.le_of_ble_eq_true rfl, Nat.le_of_ble_eq_true rfl⟩) (g_preV hG (g_recv hG (hG.vo hx0) (ci := 0) rfl)) rfl rfl hl.1 rfl (lv_room (Nat.le_of_ble_eq_true rfl)) dX0_says_28 ⟨by show _ ≤ 8; omega, by show _ ≤ 1200; omega⟩) hG (fun r_167 F_168 V_169 ws_ H locs hp hG => ?_)
            obtain ⟨rfl, rfl, hS9, rfl⟩ := hp
            have hG : gW X Fx_165 V_169 (Z) s H locs := hG
            refine vx_ret ?_
            exact g_iret hx hb hr hlocks hG (by have e9 : opSays a (v1 : Int) 3 = aNoR a 2 := (by unfold opSays; rw [if_neg (by omega), if_neg (by omega), show aSv a ((v1 : Nat) : Int).toNat = some (.inr (so1, n9, f9)) from hsvv]; first | done | rfl | (first | done | rfl)); rw [e9]; exact ⟨hle_Fx_165, rfl, hS9.ex, rfl⟩) ⟨by show _ ≤ 8; omega, by show _ ≤ 1200; omega⟩ dX0_says_31
          exact hp.elim
      · have hk9 : kk = 4 := by omega
        subst hk9
        have hx7v := hx7 v1 (by omega)
        have hok7 := hA.2.1 v1
        have hMk7 := hW.2.2.2.2.2
        rcases hsvv : aSv a v1 with _ | m1 | ⟨so1, n9, f9⟩
        · rw [hsvv] at hx7v
          have hsv : V (20 + v1) = some (sh v1, oB 3 [.null]) := hx7v
          refine lv_aload_n hx hb dX0_says_19 rfl (lv_at hl 0 rfl) ?_
          refine lv_iload_n hx hb dX0_says_20 rfl (lv_at hl 3 rfl) ?_
          refine g_xi (vx_runVX (As := [.int (zI 4)]) (rest := []) ⟨hx, hb, hml, hown, hts⟩ (metX3_says_n4 (rj := 20 + v1) hsv) (vx_cwVW 1 hts (lw_VW q719 q720 q721 q101 q722) rfl rfl rfl (by decide +kernel) ⟨Nat.le_of_ble_eq_true rfl, Nat.le_of_ble_eq_true rfl⟩) (g_preV hG (g_recv hG (hG.vo hsv) (ci := 3) rfl)) rfl rfl hl.1 rfl (lv_room (Nat.le_of_ble_eq_true rfl)) dX0_says_21 ⟨by show _ ≤ 8; omega, by show _ ≤ 1200; omega⟩) hG (fun E9 ce9 q9 Fx_173 Vx_174 ws_ H locs hpx hG hce => ?_) (fun r_170 F_171 V_172 ws_ H locs hp hG => ?_)
          · obtain ⟨rfl, hle_Fx_173, hq9, rfl, rfl⟩ := hpx
            have hG : gW X Fx_173 V (Z) s H locs := hG
            refine g_catch (name := "LineRemarks$Refused") hown htab [] ⟨0, 24, 25, 21⟩ [] rfl (fun z9 hz9 => absurd hz9 List.not_mem_nil) (by decide) (by decide) (hts _ q410) (hG.1.2.1.1 _ qn498) hce ?_
            refine lv_astore_n (lv' := [(3, .ref q9), (0, .ref x), (1, .int (zI (v1 : Int))), (2, .int (zI 4))]) hx hb dX0_says_25 rfl hl (by decide) rfl (fun ls hl => ?_)
            refine lv_aload_n hx hb dX0_says_26 rfl (lv_at hl 1 rfl) ?_
            refine lv_aload_n hx hb dX0_says_27 rfl (lv_at hl 0 rfl) ?_
            refine g_ci (va_runV (As := [.ref q9]) (rest := []) ⟨hx, hb, hml, hown, hts⟩ (metX0_refused (k := 3) (hS.mono hle_Fx_173) hA hq9 (by decide)) (cwV 1 hts (lw_V q589 q591 qs2 q87 q592) rfl rfl rfl (by decide +kernel) ⟨Nat.le_of_ble_eq_true rfl, Nat.le_of_ble_eq_true rfl⟩) (g_preV hG (g_recv hG (hG.vo hx0) (ci := 0) rfl)) rfl rfl hl.1 rfl (lv_room (Nat.le_of_ble_eq_true rfl)) dX0_says_28 ⟨by show _ ≤ 8; omega, by show _ ≤ 1200; omega⟩) hG (fun r_175 F_176 V_177 ws_ H locs hp hG => ?_)
            obtain ⟨rfl, rfl, hS9, rfl⟩ := hp
            have hG : gW X Fx_173 V_177 (Z) s H locs := hG
            refine vx_ret ?_
            exact g_iret hx hb hr hlocks hG (by have e9 : opSays a (v1 : Int) 4 = aNoR a 3 := (by unfold opSays; rw [if_neg (by omega), if_neg (by omega), show aSv a ((v1 : Nat) : Int).toNat = none from hsvv]; first | done | rfl | (first | done | rfl)); rw [e9]; exact ⟨hle_Fx_173, rfl, hS9.ex, rfl⟩) ⟨by show _ ≤ 8; omega, by show _ ≤ 1200; omega⟩ dX0_says_31
          exact hp.elim
        · rw [hsvv] at hx7v hok7
          have hm1 : m1 < wM (aWd a) := hok7
          have hsv : V (20 + v1) = some (sh v1, oB 3 [.ref (ma m1)]) := hx7v
          have hrm1 := hMk7 m1 hm1
          have hkd1 := (hK.rk hm1).1
          cases hu : aUnd ((rKind (wRk (aWd a) m1) : Nat) : Int) 4
          · refine lv_aload_n hx hb dX0_says_19 rfl (lv_at hl 0 rfl) ?_
            refine lv_iload_n hx hb dX0_says_20 rfl (lv_at hl 3 rfl) ?_
            refine g_xi (vx_runVX (As := [.int (zI 4)]) (rest := []) ⟨hx, hb, hml, hown, hts⟩ (metX3_says_f4 (rj := 20 + v1) hsv (rm_ncH4 hkd1 hu hrm1) hst) (vx_cwVW 1 hts (lw_VW q719 q720 q721 q101 q722) rfl rfl rfl (by decide +kernel) ⟨Nat.le_of_ble_eq_true rfl, Nat.le_of_ble_eq_true rfl⟩) (g_preV hG (g_recv hG (hG.vo hsv) (ci := 3) rfl)) rfl rfl hl.1 rfl (lv_room (Nat.le_of_ble_eq_true rfl)) dX0_says_21 ⟨by show _ ≤ 8; omega, by show _ ≤ 1200; omega⟩) hG (fun E9 ce9 q9 Fx_181 Vx_182 ws_ H locs hpx hG hce => ?_) (fun r_178 F_179 V_180 ws_ H locs hp hG => ?_)
            · obtain ⟨rfl, hle_Fx_181, hq9, rfl, rfl⟩ := hpx
              have hG : gW X Fx_181 V (Z) s H locs := hG
              refine g_catch (name := "LineRemarks$Refused") hown htab [] ⟨0, 24, 25, 21⟩ [] rfl (fun z9 hz9 => absurd hz9 List.not_mem_nil) (by decide) (by decide) (hts _ q410) (hG.1.2.1.1 _ qn498) hce ?_
              refine lv_astore_n (lv' := [(3, .ref q9), (0, .ref x), (1, .int (zI (v1 : Int))), (2, .int (zI 4))]) hx hb dX0_says_25 rfl hl (by decide) rfl (fun ls hl => ?_)
              refine lv_aload_n hx hb dX0_says_26 rfl (lv_at hl 1 rfl) ?_
              refine lv_aload_n hx hb dX0_says_27 rfl (lv_at hl 0 rfl) ?_
              refine g_ci (va_runV (As := [.ref q9]) (rest := []) ⟨hx, hb, hml, hown, hts⟩ (metX0_refused (k := 2) (hS.mono hle_Fx_181) hA hq9 (by decide)) (cwV 1 hts (lw_V q589 q591 qs2 q87 q592) rfl rfl rfl (by decide +kernel) ⟨Nat.le_of_ble_eq_true rfl, Nat.le_of_ble_eq_true rfl⟩) (g_preV hG (g_recv hG (hG.vo hx0) (ci := 0) rfl)) rfl rfl hl.1 rfl (lv_room (Nat.le_of_ble_eq_true rfl)) dX0_says_28 ⟨by show _ ≤ 8; omega, by show _ ≤ 1200; omega⟩) hG (fun r_183 F_184 V_185 ws_ H locs hp hG => ?_)
              obtain ⟨rfl, rfl, hS9, rfl⟩ := hp
              have hG : gW X Fx_181 V_185 (Z) s H locs := hG
              refine vx_ret ?_
              exact g_iret hx hb hr hlocks hG (by have e9 : opSays a (v1 : Int) 4 = aNoR a 2 := (by unfold opSays; rw [if_neg (by omega), if_neg (by omega), show aSv a ((v1 : Nat) : Int).toNat = some (.inl m1) from hsvv]; first | done | rfl | (show (if _ then _ else _) = _; rw [if_neg (by rw [hu]; decide)]; first | done | rfl)); rw [e9]; exact ⟨hle_Fx_181, rfl, hS9.ex, rfl⟩) ⟨by show _ ≤ 8; omega, by show _ ≤ 1200; omega⟩ dX0_says_31
            exact hp.elim
          · have hu9 := of_decide_eq_true hu
            rcases (show rKind (wRk (aWd a) m1) = 4 by omega) with hd9
            · rw [hd9] at hrm1
              refine lv_aload_n hx hb dX0_says_19 rfl (lv_at hl 0 rfl) ?_
              refine lv_iload_n hx hb dX0_says_20 rfl (lv_at hl 3 rfl) ?_
              refine g_xi (vx_runVX (As := [.int (zI 4)]) (rest := []) ⟨hx, hb, hml, hown, hts⟩ (metX3_says_t4_4 (rj := 20 + v1) hsv hrm1) (vx_cwVW 1 hts (lw_VW q719 q720 q721 q101 q722) rfl rfl rfl (by decide +kernel) ⟨Nat.le_of_ble_eq_true rfl, Nat.le_of_ble_eq_true rfl⟩) (g_preV hG (g_recv hG (hG.vo hsv) (ci := 3) rfl)) rfl rfl hl.1 rfl (lv_room (Nat.le_of_ble_eq_true rfl)) dX0_says_21 ⟨by show _ ≤ 8; omega, by show _ ≤ 1200; omega⟩) hG (fun E9 ce9 q9 Fx_189 Vx_190 ws_ H locs hpx hG hce => ?_) (fun r_186 F_187 V_188 ws_ H locs hp hG => ?_)
              · exact hpx.elim
              obtain ⟨rfl, rfl, rfl, rfl⟩ := hp
              have hG : gW X F V (Z) s H locs := hG
              refine vx_ret ?_
              exact g_iret hx hb hr hlocks hG (by have e9 : opSays a (v1 : Int) 4 = ((rQ (wRk (aWd a) m1) : Int), a) := (by unfold opSays; rw [if_neg (by omega), if_neg (by omega), show aSv a ((v1 : Nat) : Int).toNat = some (.inl m1) from hsvv]; first | done | rfl | (show (if _ then _ else _) = _; rw [if_pos hu]; first | done | rfl)); rw [e9]; exact ⟨(gLe.rfl (V := V)), rfl, (hS).ex, rfl⟩) ⟨by show _ ≤ 8; omega, by show _ ≤ 1200; omega⟩ dX0_says_24
        · rw [hsvv] at hx7v hok7
          obtain ⟨ro, ar, hsv, hro, hVr, hfx⟩ := hx7v
          obtain ⟨hso, hn160⟩ : so1 ≤ 3 ∧ n9 ≤ 160 := hok7
          refine lv_aload_n hx hb dX0_says_19 rfl (lv_at hl 0 rfl) ?_
          refine lv_iload_n hx hb dX0_says_20 rfl (lv_at hl 3 rfl) ?_
          refine g_xi (vx_runVX (As := [.int (zI 4)]) (rest := []) ⟨hx, hb, hml, hown, hts⟩ (metX3_says_f4 (rj := 20 + v1) hsv (rw_ncH4 hso hro) hst) (vx_cwVW 1 hts (lw_VW q719 q720 q721 q101 q722) rfl rfl rfl (by decide +kernel) ⟨Nat.le_of_ble_eq_true rfl, Nat.le_of_ble_eq_true rfl⟩) (g_preV hG (g_recv hG (hG.vo hsv) (ci := 3) rfl)) rfl rfl hl.1 rfl (lv_room (Nat.le_of_ble_eq_true rfl)) dX0_says_21 ⟨by show _ ≤ 8; omega, by show _ ≤ 1200; omega⟩) hG (fun E9 ce9 q9 Fx_194 Vx_195 ws_ H locs hpx hG hce => ?_) (fun r_191 F_192 V_193 ws_ H locs hp hG => ?_)
          · obtain ⟨rfl, hle_Fx_194, hq9, rfl, rfl⟩ := hpx
            have hG : gW X Fx_194 V (Z) s H locs := hG
            refine g_catch (name := "LineRemarks$Refused") hown htab [] ⟨0, 24, 25, 21⟩ [] rfl (fun z9 hz9 => absurd hz9 List.not_mem_nil) (by decide) (by decide) (hts _ q410) (hG.1.2.1.1 _ qn498) hce ?_
            refine lv_astore_n (lv' := [(3, .ref q9), (0, .ref x), (1, .int (zI (v1 : Int))), (2, .int (zI 4))]) hx hb dX0_says_25 rfl hl (by decide) rfl (fun ls hl => ?_)
            refine lv_aload_n hx hb dX0_says_26 rfl (lv_at hl 1 rfl) ?_
            refine lv_aload_n hx hb dX0_says_27 rfl (lv_at hl 0 rfl) ?_
            refine g_ci (va_runV (As := [.ref q9]) (rest := []) ⟨hx, hb, hml, hown, hts⟩ (metX0_refused (k := 2) (hS.mono hle_Fx_194) hA hq9 (by decide)) (cwV 1 hts (lw_V q589 q591 qs2 q87 q592) rfl rfl rfl (by decide +kernel) ⟨Nat.le_of_ble_eq_true rfl, Nat.le_of_ble_eq_true rfl⟩) (g_preV hG (g_recv hG (hG.vo hx0) (ci := 0) rfl)) rfl rfl hl.1 rfl (lv_room (Nat.le_of_ble_eq_true rfl)) dX0_says_28 ⟨by show _ ≤ 8; omega, by show _ ≤ 1200; omega⟩) hG (fun r_196 F_197 V_198 ws_ H locs hp hG => ?_)
            obtain ⟨rfl, rfl, hS9, rfl⟩ := hp
            have hG : gW X Fx_194 V_198 (Z) s H locs := hG
            refine vx_ret ?_
            exact g_iret hx hb hr hlocks hG (by have e9 : opSays a (v1 : Int) 4 = aNoR a 2 := (by unfold opSays; rw [if_neg (by omega), if_neg (by omega), show aSv a ((v1 : Nat) : Int).toNat = some (.inr (so1, n9, f9)) from hsvv]; first | done | rfl | (first | done | rfl)); rw [e9]; exact ⟨hle_Fx_194, rfl, hS9.ex, rfl⟩) ⟨by show _ ≤ 8; omega, by show _ ≤ 1200; omega⟩ dX0_says_31
          exact hp.elim
      · have hk9 : kk = 5 := by omega
        subst hk9
        have hx7v := hx7 v1 (by omega)
        have hok7 := hA.2.1 v1
        have hMk7 := hW.2.2.2.2.2
        rcases hsvv : aSv a v1 with _ | m1 | ⟨so1, n9, f9⟩
        · rw [hsvv] at hx7v
          have hsv : V (20 + v1) = some (sh v1, oB 3 [.null]) := hx7v
          refine lv_aload_n hx hb dX0_says_19 rfl (lv_at hl 0 rfl) ?_
          refine lv_iload_n hx hb dX0_says_20 rfl (lv_at hl 3 rfl) ?_
          refine g_xi (vx_runVX (As := [.int (zI 5)]) (rest := []) ⟨hx, hb, hml, hown, hts⟩ (metX3_says_n5 (rj := 20 + v1) hsv) (vx_cwVW 1 hts (lw_VW q719 q720 q721 q101 q722) rfl rfl rfl (by decide +kernel) ⟨Nat.le_of_ble_eq_true rfl, Nat.le_of_ble_eq_true rfl⟩) (g_preV hG (g_recv hG (hG.vo hsv) (ci := 3) rfl)) rfl rfl hl.1 rfl (lv_room (Nat.le_of_ble_eq_true rfl)) dX0_says_21 ⟨by show _ ≤ 8; omega, by show _ ≤ 1200; omega⟩) hG (fun E9 ce9 q9 Fx_202 Vx_203 ws_ H locs hpx hG hce => ?_) (fun r_199 F_200 V_201 ws_ H locs hp hG => ?_)
          · obtain ⟨rfl, hle_Fx_202, hq9, rfl, rfl⟩ := hpx
            have hG : gW X Fx_202 V (Z) s H locs := hG
            refine g_catch (name := "LineRemarks$Refused") hown htab [] ⟨0, 24, 25, 21⟩ [] rfl (fun z9 hz9 => absurd hz9 List.not_mem_nil) (by decide) (by decide) (hts _ q410) (hG.1.2.1.1 _ qn498) hce ?_
            refine lv_astore_n (lv' := [(3, .ref q9), (0, .ref x), (1, .int (zI (v1 : Int))), (2, .int (zI 5))]) hx hb dX0_says_25 rfl hl (by decide) rfl (fun ls hl => ?_)
            refine lv_aload_n hx hb dX0_says_26 rfl (lv_at hl 1 rfl) ?_
            refine lv_aload_n hx hb dX0_says_27 rfl (lv_at hl 0 rfl) ?_
            refine g_ci (va_runV (As := [.ref q9]) (rest := []) ⟨hx, hb, hml, hown, hts⟩ (metX0_refused (k := 3) (hS.mono hle_Fx_202) hA hq9 (by decide)) (cwV 1 hts (lw_V q589 q591 qs2 q87 q592) rfl rfl rfl (by decide +kernel) ⟨Nat.le_of_ble_eq_true rfl, Nat.le_of_ble_eq_true rfl⟩) (g_preV hG (g_recv hG (hG.vo hx0) (ci := 0) rfl)) rfl rfl hl.1 rfl (lv_room (Nat.le_of_ble_eq_true rfl)) dX0_says_28 ⟨by show _ ≤ 8; omega, by show _ ≤ 1200; omega⟩) hG (fun r_204 F_205 V_206 ws_ H locs hp hG => ?_)
            obtain ⟨rfl, rfl, hS9, rfl⟩ := hp
            have hG : gW X Fx_202 V_206 (Z) s H locs := hG
            refine vx_ret ?_
            exact g_iret hx hb hr hlocks hG (by have e9 : opSays a (v1 : Int) 5 = aNoR a 3 := (by unfold opSays; rw [if_neg (by omega), if_neg (by omega), show aSv a ((v1 : Nat) : Int).toNat = none from hsvv]; first | done | rfl | (first | done | rfl)); rw [e9]; exact ⟨hle_Fx_202, rfl, hS9.ex, rfl⟩) ⟨by show _ ≤ 8; omega, by show _ ≤ 1200; omega⟩ dX0_says_31
          exact hp.elim
        · rw [hsvv] at hx7v hok7
          have hm1 : m1 < wM (aWd a) := hok7
          have hsv : V (20 + v1) = some (sh v1, oB 3 [.ref (ma m1)]) := hx7v
          have hrm1 := hMk7 m1 hm1
          have hkd1 := (hK.rk hm1).1
          cases hu : aUnd ((rKind (wRk (aWd a) m1) : Nat) : Int) 5
          · refine lv_aload_n hx hb dX0_says_19 rfl (lv_at hl 0 rfl) ?_
            refine lv_iload_n hx hb dX0_says_20 rfl (lv_at hl 3 rfl) ?_
            refine g_xi (vx_runVX (As := [.int (zI 5)]) (rest := []) ⟨hx, hb, hml, hown, hts⟩ (metX3_says_f5 (rj := 20 + v1) hsv (rm_ncH5 hkd1 hu hrm1) hst) (vx_cwVW 1 hts (lw_VW q719 q720 q721 q101 q722) rfl rfl rfl (by decide +kernel) ⟨Nat.le_of_ble_eq_true rfl, Nat.le_of_ble_eq_true rfl⟩) (g_preV hG (g_recv hG (hG.vo hsv) (ci := 3) rfl)) rfl rfl hl.1 rfl (lv_room (Nat.le_of_ble_eq_true rfl)) dX0_says_21 ⟨by show _ ≤ 8; omega, by show _ ≤ 1200; omega⟩) hG (fun E9 ce9 q9 Fx_210 Vx_211 ws_ H locs hpx hG hce => ?_) (fun r_207 F_208 V_209 ws_ H locs hp hG => ?_)
            · obtain ⟨rfl, hle_Fx_210, hq9, rfl, rfl⟩ := hpx
              have hG : gW X Fx_210 V (Z) s H locs := hG
              refine g_catch (name := "LineRemarks$Refused") hown htab [] ⟨0, 24, 25, 21⟩ [] rfl (fun z9 hz9 => absurd hz9 List.not_mem_nil) (by decide) (by decide) (hts _ q410) (hG.1.2.1.1 _ qn498) hce ?_
              refine lv_astore_n (lv' := [(3, .ref q9), (0, .ref x), (1, .int (zI (v1 : Int))), (2, .int (zI 5))]) hx hb dX0_says_25 rfl hl (by decide) rfl (fun ls hl => ?_)
              refine lv_aload_n hx hb dX0_says_26 rfl (lv_at hl 1 rfl) ?_
              refine lv_aload_n hx hb dX0_says_27 rfl (lv_at hl 0 rfl) ?_
              refine g_ci (va_runV (As := [.ref q9]) (rest := []) ⟨hx, hb, hml, hown, hts⟩ (metX0_refused (k := 2) (hS.mono hle_Fx_210) hA hq9 (by decide)) (cwV 1 hts (lw_V q589 q591 qs2 q87 q592) rfl rfl rfl (by decide +kernel) ⟨Nat.le_of_ble_eq_true rfl, Nat.le_of_ble_eq_true rfl⟩) (g_preV hG (g_recv hG (hG.vo hx0) (ci := 0) rfl)) rfl rfl hl.1 rfl (lv_room (Nat.le_of_ble_eq_true rfl)) dX0_says_28 ⟨by show _ ≤ 8; omega, by show _ ≤ 1200; omega⟩) hG (fun r_212 F_213 V_214 ws_ H locs hp hG => ?_)
              obtain ⟨rfl, rfl, hS9, rfl⟩ := hp
              have hG : gW X Fx_210 V_214 (Z) s H locs := hG
              refine vx_ret ?_
              exact g_iret hx hb hr hlocks hG (by have e9 : opSays a (v1 : Int) 5 = aNoR a 2 := (by unfold opSays; rw [if_neg (by omega), if_neg (by omega), show aSv a ((v1 : Nat) : Int).toNat = some (.inl m1) from hsvv]; first | done | rfl | (show (if _ then _ else _) = _; rw [if_neg (by rw [hu]; decide)]; first | done | rfl)); rw [e9]; exact ⟨hle_Fx_210, rfl, hS9.ex, rfl⟩) ⟨by show _ ≤ 8; omega, by show _ ≤ 1200; omega⟩ dX0_says_31
            exact hp.elim
          · have hu9 := of_decide_eq_true hu
            rcases (show rKind (wRk (aWd a) m1) = 5 by omega) with hd9
            · rw [hd9] at hrm1
              refine lv_aload_n hx hb dX0_says_19 rfl (lv_at hl 0 rfl) ?_
              refine lv_iload_n hx hb dX0_says_20 rfl (lv_at hl 3 rfl) ?_
              refine g_xi (vx_runVX (As := [.int (zI 5)]) (rest := []) ⟨hx, hb, hml, hown, hts⟩ (metX3_says_t5_5 (rj := 20 + v1) hsv hrm1) (vx_cwVW 1 hts (lw_VW q719 q720 q721 q101 q722) rfl rfl rfl (by decide +kernel) ⟨Nat.le_of_ble_eq_true rfl, Nat.le_of_ble_eq_true rfl⟩) (g_preV hG (g_recv hG (hG.vo hsv) (ci := 3) rfl)) rfl rfl hl.1 rfl (lv_room (Nat.le_of_ble_eq_true rfl)) dX0_says_21 ⟨by show _ ≤ 8; omega, by show _ ≤ 1200; omega⟩) hG (fun E9 ce9 q9 Fx_218 Vx_219 ws_ H locs hpx hG hce => ?_) (fun r_215 F_216 V_217 ws_ H locs hp hG => ?_)
              · exact hpx.elim
              obtain ⟨rfl, rfl, rfl, rfl⟩ := hp
              have hG : gW X F V (Z) s H locs := hG
              refine vx_ret ?_
              exact g_iret hx hb hr hlocks hG (by have e9 : opSays a (v1 : Int) 5 = (((rQ (wRk (aWd a) m1) : Int) - (rP (wRk (aWd a) m1) : Int) + 1), a) := (by unfold opSays; rw [if_neg (by omega), if_neg (by omega), show aSv a ((v1 : Nat) : Int).toNat = some (.inl m1) from hsvv]; first | done | rfl | (show (if _ then _ else _) = _; rw [if_pos hu]; first | done | rfl)); rw [e9]; exact ⟨(gLe.rfl (V := V)), rfl, (hS).ex, rfl⟩) ⟨by show _ ≤ 8; omega, by show _ ≤ 1200; omega⟩ dX0_says_24
        · rw [hsvv] at hx7v hok7
          obtain ⟨ro, ar, hsv, hro, hVr, hfx⟩ := hx7v
          obtain ⟨hso, hn160⟩ : so1 ≤ 3 ∧ n9 ≤ 160 := hok7
          refine lv_aload_n hx hb dX0_says_19 rfl (lv_at hl 0 rfl) ?_
          refine lv_iload_n hx hb dX0_says_20 rfl (lv_at hl 3 rfl) ?_
          refine g_xi (vx_runVX (As := [.int (zI 5)]) (rest := []) ⟨hx, hb, hml, hown, hts⟩ (metX3_says_f5 (rj := 20 + v1) hsv (rw_ncH5 hso hro) hst) (vx_cwVW 1 hts (lw_VW q719 q720 q721 q101 q722) rfl rfl rfl (by decide +kernel) ⟨Nat.le_of_ble_eq_true rfl, Nat.le_of_ble_eq_true rfl⟩) (g_preV hG (g_recv hG (hG.vo hsv) (ci := 3) rfl)) rfl rfl hl.1 rfl (lv_room (Nat.le_of_ble_eq_true rfl)) dX0_says_21 ⟨by show _ ≤ 8; omega, by show _ ≤ 1200; omega⟩) hG (fun E9 ce9 q9 Fx_223 Vx_224 ws_ H locs hpx hG hce => ?_) (fun r_220 F_221 V_222 ws_ H locs hp hG => ?_)
          · obtain ⟨rfl, hle_Fx_223, hq9, rfl, rfl⟩ := hpx
            have hG : gW X Fx_223 V (Z) s H locs := hG
            refine g_catch (name := "LineRemarks$Refused") hown htab [] ⟨0, 24, 25, 21⟩ [] rfl (fun z9 hz9 => absurd hz9 List.not_mem_nil) (by decide) (by decide) (hts _ q410) (hG.1.2.1.1 _ qn498) hce ?_
            refine lv_astore_n (lv' := [(3, .ref q9), (0, .ref x), (1, .int (zI (v1 : Int))), (2, .int (zI 5))]) hx hb dX0_says_25 rfl hl (by decide) rfl (fun ls hl => ?_)
            refine lv_aload_n hx hb dX0_says_26 rfl (lv_at hl 1 rfl) ?_
            refine lv_aload_n hx hb dX0_says_27 rfl (lv_at hl 0 rfl) ?_
            refine g_ci (va_runV (As := [.ref q9]) (rest := []) ⟨hx, hb, hml, hown, hts⟩ (metX0_refused (k := 2) (hS.mono hle_Fx_223) hA hq9 (by decide)) (cwV 1 hts (lw_V q589 q591 qs2 q87 q592) rfl rfl rfl (by decide +kernel) ⟨Nat.le_of_ble_eq_true rfl, Nat.le_of_ble_eq_true rfl⟩) (g_preV hG (g_recv hG (hG.vo hx0) (ci := 0) rfl)) rfl rfl hl.1 rfl (lv_room (Nat.le_of_ble_eq_true rfl)) dX0_says_28 ⟨by show _ ≤ 8; omega, by show _ ≤ 1200; omega⟩) hG (fun r_225 F_226 V_227 ws_ H locs hp hG => ?_)
            obtain ⟨rfl, rfl, hS9, rfl⟩ := hp
            have hG : gW X Fx_223 V_227 (Z) s H locs := hG
            refine vx_ret ?_
            exact g_iret hx hb hr hlocks hG (by have e9 : opSays a (v1 : Int) 5 = aNoR a 2 := (by unfold opSays; rw [if_neg (by omega), if_neg (by omega), show aSv a ((v1 : Nat) : Int).toNat = some (.inr (so1, n9, f9)) from hsvv]; first | done | rfl | (first | done | rfl)); rw [e9]; exact ⟨hle_Fx_223, rfl, hS9.ex, rfl⟩) ⟨by show _ ≤ 8; omega, by show _ ≤ 1200; omega⟩ dX0_says_31
          exact hp.elim
      · have hk9 : kk = 6 := by omega
        subst hk9
        have hx7v := hx7 v1 (by omega)
        have hok7 := hA.2.1 v1
        have hMk7 := hW.2.2.2.2.2
        rcases hsvv : aSv a v1 with _ | m1 | ⟨so1, n9, f9⟩
        · rw [hsvv] at hx7v
          have hsv : V (20 + v1) = some (sh v1, oB 3 [.null]) := hx7v
          refine lv_aload_n hx hb dX0_says_19 rfl (lv_at hl 0 rfl) ?_
          refine lv_iload_n hx hb dX0_says_20 rfl (lv_at hl 3 rfl) ?_
          refine g_xi (vx_runVX (As := [.int (zI 6)]) (rest := []) ⟨hx, hb, hml, hown, hts⟩ (metX3_says_n6 (rj := 20 + v1) hsv) (vx_cwVW 1 hts (lw_VW q719 q720 q721 q101 q722) rfl rfl rfl (by decide +kernel) ⟨Nat.le_of_ble_eq_true rfl, Nat.le_of_ble_eq_true rfl⟩) (g_preV hG (g_recv hG (hG.vo hsv) (ci := 3) rfl)) rfl rfl hl.1 rfl (lv_room (Nat.le_of_ble_eq_true rfl)) dX0_says_21 ⟨by show _ ≤ 8; omega, by show _ ≤ 1200; omega⟩) hG (fun E9 ce9 q9 Fx_231 Vx_232 ws_ H locs hpx hG hce => ?_) (fun r_228 F_229 V_230 ws_ H locs hp hG => ?_)
          · obtain ⟨rfl, hle_Fx_231, hq9, rfl, rfl⟩ := hpx
            have hG : gW X Fx_231 V (Z) s H locs := hG
            refine g_catch (name := "LineRemarks$Refused") hown htab [] ⟨0, 24, 25, 21⟩ [] rfl (fun z9 hz9 => absurd hz9 List.not_mem_nil) (by decide) (by decide) (hts _ q410) (hG.1.2.1.1 _ qn498) hce ?_
            refine lv_astore_n (lv' := [(3, .ref q9), (0, .ref x), (1, .int (zI (v1 : Int))), (2, .int (zI 6))]) hx hb dX0_says_25 rfl hl (by decide) rfl (fun ls hl => ?_)
            refine lv_aload_n hx hb dX0_says_26 rfl (lv_at hl 1 rfl) ?_
            refine lv_aload_n hx hb dX0_says_27 rfl (lv_at hl 0 rfl) ?_
            refine g_ci (va_runV (As := [.ref q9]) (rest := []) ⟨hx, hb, hml, hown, hts⟩ (metX0_refused (k := 3) (hS.mono hle_Fx_231) hA hq9 (by decide)) (cwV 1 hts (lw_V q589 q591 qs2 q87 q592) rfl rfl rfl (by decide +kernel) ⟨Nat.le_of_ble_eq_true rfl, Nat.le_of_ble_eq_true rfl⟩) (g_preV hG (g_recv hG (hG.vo hx0) (ci := 0) rfl)) rfl rfl hl.1 rfl (lv_room (Nat.le_of_ble_eq_true rfl)) dX0_says_28 ⟨by show _ ≤ 8; omega, by show _ ≤ 1200; omega⟩) hG (fun r_233 F_234 V_235 ws_ H locs hp hG => ?_)
            obtain ⟨rfl, rfl, hS9, rfl⟩ := hp
            have hG : gW X Fx_231 V_235 (Z) s H locs := hG
            refine vx_ret ?_
            exact g_iret hx hb hr hlocks hG (by have e9 : opSays a (v1 : Int) 6 = aNoR a 3 := (by unfold opSays; rw [if_neg (by omega), if_neg (by omega), show aSv a ((v1 : Nat) : Int).toNat = none from hsvv]; first | done | rfl | (first | done | rfl)); rw [e9]; exact ⟨hle_Fx_231, rfl, hS9.ex, rfl⟩) ⟨by show _ ≤ 8; omega, by show _ ≤ 1200; omega⟩ dX0_says_31
          exact hp.elim
        · rw [hsvv] at hx7v hok7
          have hm1 : m1 < wM (aWd a) := hok7
          have hsv : V (20 + v1) = some (sh v1, oB 3 [.ref (ma m1)]) := hx7v
          have hrm1 := hMk7 m1 hm1
          have hkd1 := (hK.rk hm1).1
          cases hu : aUnd ((rKind (wRk (aWd a) m1) : Nat) : Int) 6
          · refine lv_aload_n hx hb dX0_says_19 rfl (lv_at hl 0 rfl) ?_
            refine lv_iload_n hx hb dX0_says_20 rfl (lv_at hl 3 rfl) ?_
            refine g_xi (vx_runVX (As := [.int (zI 6)]) (rest := []) ⟨hx, hb, hml, hown, hts⟩ (metX3_says_f6 (rj := 20 + v1) hsv (rm_ncH6 hkd1 hu hrm1) hst) (vx_cwVW 1 hts (lw_VW q719 q720 q721 q101 q722) rfl rfl rfl (by decide +kernel) ⟨Nat.le_of_ble_eq_true rfl, Nat.le_of_ble_eq_true rfl⟩) (g_preV hG (g_recv hG (hG.vo hsv) (ci := 3) rfl)) rfl rfl hl.1 rfl (lv_room (Nat.le_of_ble_eq_true rfl)) dX0_says_21 ⟨by show _ ≤ 8; omega, by show _ ≤ 1200; omega⟩) hG (fun E9 ce9 q9 Fx_239 Vx_240 ws_ H locs hpx hG hce => ?_) (fun r_236 F_237 V_238 ws_ H locs hp hG => ?_)
            · obtain ⟨rfl, hle_Fx_239, hq9, rfl, rfl⟩ := hpx
              have hG : gW X Fx_239 V (Z) s H locs := hG
              refine g_catch (name := "LineRemarks$Refused") hown htab [] ⟨0, 24, 25, 21⟩ [] rfl (fun z9 hz9 => absurd hz9 List.not_mem_nil) (by decide) (by decide) (hts _ q410) (hG.1.2.1.1 _ qn498) hce ?_
              refine lv_astore_n (lv' := [(3, .ref q9), (0, .ref x), (1, .int (zI (v1 : Int))), (2, .int (zI 6))]) hx hb dX0_says_25 rfl hl (by decide) rfl (fun ls hl => ?_)
              refine lv_aload_n hx hb dX0_says_26 rfl (lv_at hl 1 rfl) ?_
              refine lv_aload_n hx hb dX0_says_27 rfl (lv_at hl 0 rfl) ?_
              refine g_ci (va_runV (As := [.ref q9]) (rest := []) ⟨hx, hb, hml, hown, hts⟩ (metX0_refused (k := 2) (hS.mono hle_Fx_239) hA hq9 (by decide)) (cwV 1 hts (lw_V q589 q591 qs2 q87 q592) rfl rfl rfl (by decide +kernel) ⟨Nat.le_of_ble_eq_true rfl, Nat.le_of_ble_eq_true rfl⟩) (g_preV hG (g_recv hG (hG.vo hx0) (ci := 0) rfl)) rfl rfl hl.1 rfl (lv_room (Nat.le_of_ble_eq_true rfl)) dX0_says_28 ⟨by show _ ≤ 8; omega, by show _ ≤ 1200; omega⟩) hG (fun r_241 F_242 V_243 ws_ H locs hp hG => ?_)
              obtain ⟨rfl, rfl, hS9, rfl⟩ := hp
              have hG : gW X Fx_239 V_243 (Z) s H locs := hG
              refine vx_ret ?_
              exact g_iret hx hb hr hlocks hG (by have e9 : opSays a (v1 : Int) 6 = aNoR a 2 := (by unfold opSays; rw [if_neg (by omega), if_neg (by omega), show aSv a ((v1 : Nat) : Int).toNat = some (.inl m1) from hsvv]; first | done | rfl | (show (if _ then _ else _) = _; rw [if_neg (by rw [hu]; decide)]; first | done | rfl)); rw [e9]; exact ⟨hle_Fx_239, rfl, hS9.ex, rfl⟩) ⟨by show _ ≤ 8; omega, by show _ ≤ 1200; omega⟩ dX0_says_31
            exact hp.elim
          · have hu9 := of_decide_eq_true hu
            rcases (show rKind (wRk (aWd a) m1) = 6 by omega) with hd9
            · rw [hd9] at hrm1
              have hrv9 := (hW.2.2.2.2.1 (rOn (wRk (aWd a) m1)) (hK.rk hm1).2.2.1).1
              refine lv_aload_n hx hb dX0_says_19 rfl (lv_at hl 0 rfl) ?_
              refine lv_iload_n hx hb dX0_says_20 rfl (lv_at hl 3 rfl) ?_
              refine g_xi (vx_runVX (As := [.int (zI 6)]) (rest := []) ⟨hx, hb, hml, hown, hts⟩ (metX3_says_t6_6 (rj := 20 + v1) hsv hrm1 hrv9) (vx_cwVW 1 hts (lw_VW q719 q720 q721 q101 q722) rfl rfl rfl (by decide +kernel) ⟨Nat.le_of_ble_eq_true rfl, Nat.le_of_ble_eq_true rfl⟩) (g_preV hG (g_recv hG (hG.vo hsv) (ci := 3) rfl)) rfl rfl hl.1 rfl (lv_room (Nat.le_of_ble_eq_true rfl)) dX0_says_21 ⟨by show _ ≤ 8; omega, by show _ ≤ 1200; omega⟩) hG (fun E9 ce9 q9 Fx_247 Vx_248 ws_ H locs hpx hG hce => ?_) (fun r_244 F_245 V_246 ws_ H locs hp hG => ?_)
              · exact hpx.elim
              obtain ⟨rfl, rfl, rfl, rfl⟩ := hp
              have hG : gW X F V (Z) s H locs := hG
              refine vx_ret ?_
              exact g_iret hx hb hr hlocks hG (by have e9 : opSays a (v1 : Int) 6 = (((rOn (wRk (aWd a) m1) : Nat) : Int), a) := (by unfold opSays; rw [if_neg (by omega), if_neg (by omega), show aSv a ((v1 : Nat) : Int).toNat = some (.inl m1) from hsvv]; first | done | rfl | (show (if _ then _ else _) = _; rw [if_pos hu]; first | done | rfl)); rw [e9]; exact ⟨(gLe.rfl (V := V)), rfl, (hS).ex, rfl⟩) ⟨by show _ ≤ 8; omega, by show _ ≤ 1200; omega⟩ dX0_says_24
        · rw [hsvv] at hx7v hok7
          obtain ⟨ro, ar, hsv, hro, hVr, hfx⟩ := hx7v
          obtain ⟨hso, hn160⟩ : so1 ≤ 3 ∧ n9 ≤ 160 := hok7
          refine lv_aload_n hx hb dX0_says_19 rfl (lv_at hl 0 rfl) ?_
          refine lv_iload_n hx hb dX0_says_20 rfl (lv_at hl 3 rfl) ?_
          refine g_xi (vx_runVX (As := [.int (zI 6)]) (rest := []) ⟨hx, hb, hml, hown, hts⟩ (metX3_says_f6 (rj := 20 + v1) hsv (rw_ncH6 hso hro) hst) (vx_cwVW 1 hts (lw_VW q719 q720 q721 q101 q722) rfl rfl rfl (by decide +kernel) ⟨Nat.le_of_ble_eq_true rfl, Nat.le_of_ble_eq_true rfl⟩) (g_preV hG (g_recv hG (hG.vo hsv) (ci := 3) rfl)) rfl rfl hl.1 rfl (lv_room (Nat.le_of_ble_eq_true rfl)) dX0_says_21 ⟨by show _ ≤ 8; omega, by show _ ≤ 1200; omega⟩) hG (fun E9 ce9 q9 Fx_252 Vx_253 ws_ H locs hpx hG hce => ?_) (fun r_249 F_250 V_251 ws_ H locs hp hG => ?_)
          · obtain ⟨rfl, hle_Fx_252, hq9, rfl, rfl⟩ := hpx
            have hG : gW X Fx_252 V (Z) s H locs := hG
            refine g_catch (name := "LineRemarks$Refused") hown htab [] ⟨0, 24, 25, 21⟩ [] rfl (fun z9 hz9 => absurd hz9 List.not_mem_nil) (by decide) (by decide) (hts _ q410) (hG.1.2.1.1 _ qn498) hce ?_
            refine lv_astore_n (lv' := [(3, .ref q9), (0, .ref x), (1, .int (zI (v1 : Int))), (2, .int (zI 6))]) hx hb dX0_says_25 rfl hl (by decide) rfl (fun ls hl => ?_)
            refine lv_aload_n hx hb dX0_says_26 rfl (lv_at hl 1 rfl) ?_
            refine lv_aload_n hx hb dX0_says_27 rfl (lv_at hl 0 rfl) ?_
            refine g_ci (va_runV (As := [.ref q9]) (rest := []) ⟨hx, hb, hml, hown, hts⟩ (metX0_refused (k := 2) (hS.mono hle_Fx_252) hA hq9 (by decide)) (cwV 1 hts (lw_V q589 q591 qs2 q87 q592) rfl rfl rfl (by decide +kernel) ⟨Nat.le_of_ble_eq_true rfl, Nat.le_of_ble_eq_true rfl⟩) (g_preV hG (g_recv hG (hG.vo hx0) (ci := 0) rfl)) rfl rfl hl.1 rfl (lv_room (Nat.le_of_ble_eq_true rfl)) dX0_says_28 ⟨by show _ ≤ 8; omega, by show _ ≤ 1200; omega⟩) hG (fun r_254 F_255 V_256 ws_ H locs hp hG => ?_)
            obtain ⟨rfl, rfl, hS9, rfl⟩ := hp
            have hG : gW X Fx_252 V_256 (Z) s H locs := hG
            refine vx_ret ?_
            exact g_iret hx hb hr hlocks hG (by have e9 : opSays a (v1 : Int) 6 = aNoR a 2 := (by unfold opSays; rw [if_neg (by omega), if_neg (by omega), show aSv a ((v1 : Nat) : Int).toNat = some (.inr (so1, n9, f9)) from hsvv]; first | done | rfl | (first | done | rfl)); rw [e9]; exact ⟨hle_Fx_252, rfl, hS9.ex, rfl⟩) ⟨by show _ ≤ 8; omega, by show _ ≤ 1200; omega⟩ dX0_says_31
          exact hp.elim
    · refine g_ci (va_runS (As := [.long (zL kk), .long (zL 0), .long (zL 6)]) (rest := []) ⟨hx, hb, hml, hown, hts⟩ (metX0_in (a9 := kk) (b9 := 0) (c9 := 6) (by omega)) (va_cwS 3 hts (lw_S q524 q525 q87 q526) rfl rfl rfl (by decide +kernel) ⟨Nat.le_of_ble_eq_true rfl, Nat.le_of_ble_eq_true rfl⟩) (g_preS hG) rfl rfl hl.1 rfl (lv_room (Nat.le_of_ble_eq_true rfl)) dX0_says_12 ⟨by show _ ≤ 8; omega, by show _ ≤ 1200; omega⟩) hG (fun r_257 F_258 V_259 ws_ H locs hp hG => ?_)
      obtain ⟨rfl, rfl, rfl, rfl⟩ := hp
      have hG : gW X F V (Z) s H locs := hG
      refine g_topz (y := 0) (by rw [decide_eq_false (by omega)]; rfl) ?_
      refine lv_iconst (v := zI (-1)) hx hb dX0_says_15 (by decide +kernel) ?_
      refine g_xv (vx_runS (As := [.int (zI 0), .int (zI (-1))]) (rest := []) ⟨hx, hb, hml, hown, hts⟩ (metX0_need_f (k := 1)) (va_cwS 2 hts (lw_S q520 q521 q87 q522) rfl rfl rfl (by decide +kernel) ⟨Nat.le_of_ble_eq_true rfl, Nat.le_of_ble_eq_true rfl⟩) (g_preS hG) rfl rfl hl.1 rfl (lv_room (Nat.le_of_ble_eq_true rfl)) dX0_says_16 ⟨by show _ ≤ 8; omega, by show _ ≤ 1200; omega⟩) hG (fun E9 ce9 q9 Fx_263 Vx_264 ws_ H locs hpx hG hce => ?_) (fun F_261 V_262 ws_ H locs hp hG => ?_)
      · obtain ⟨rfl, hle_Fx_263, hq9, rfl, rfl⟩ := hpx
        have hG : gW X Fx_263 V (Z) s H locs := hG
        refine g_catch (name := "LineRemarks$Refused") hown htab [] ⟨0, 24, 25, 21⟩ [] rfl (fun z9 hz9 => absurd hz9 List.not_mem_nil) (by decide) (by decide) (hts _ q410) (hG.1.2.1.1 _ qn498) hce ?_
        refine lv_astore_n (lv' := [(3, .ref q9), (0, .ref x), (1, .int (zI (v1 : Int))), (2, .int (zI kk))]) hx hb dX0_says_25 rfl hl (by decide) rfl (fun ls hl => ?_)
        refine lv_aload_n hx hb dX0_says_26 rfl (lv_at hl 1 rfl) ?_
        refine lv_aload_n hx hb dX0_says_27 rfl (lv_at hl 0 rfl) ?_
        refine g_ci (va_runV (As := [.ref q9]) (rest := []) ⟨hx, hb, hml, hown, hts⟩ (metX0_refused (k := 1) (hS.mono hle_Fx_263) hA hq9 (by decide)) (cwV 1 hts (lw_V q589 q591 qs2 q87 q592) rfl rfl rfl (by decide +kernel) ⟨Nat.le_of_ble_eq_true rfl, Nat.le_of_ble_eq_true rfl⟩) (g_preV hG (g_recv hG (hG.vo hx0) (ci := 0) rfl)) rfl rfl hl.1 rfl (lv_room (Nat.le_of_ble_eq_true rfl)) dX0_says_28 ⟨by show _ ≤ 8; omega, by show _ ≤ 1200; omega⟩) hG (fun r_265 F_266 V_267 ws_ H locs hp hG => ?_)
        obtain ⟨rfl, rfl, hS9, rfl⟩ := hp
        have hG : gW X Fx_263 V_267 (Z) s H locs := hG
        refine vx_ret ?_
        exact g_iret hx hb hr hlocks hG (by have e9 : opSays a (v1 : Int) kk = aNoR a 1 := (by unfold opSays; rw [if_neg (by omega), if_pos (by omega)]; first | done | rfl); rw [e9]; exact ⟨hle_Fx_263, rfl, hS9.ex, rfl⟩) ⟨by show _ ≤ 8; omega, by show _ ≤ 1200; omega⟩ dX0_says_31
      exact hp.elim
  · refine g_xr (vx_runVX (As := [.int (zI v)]) (rest := []) ⟨hx, hb, hml, hown, hts⟩ (metX0_shelf_f hS hA hst (by omega)) (vx_cwVW 1 hts (lw_VW q411 q413 qs0 q87 q414) rfl rfl rfl (by decide +kernel) ⟨Nat.le_of_ble_eq_true rfl, Nat.le_of_ble_eq_true rfl⟩) (g_preV hG (g_recv hG (hG.vo hx0) (ci := 0) rfl)) rfl rfl hl.1 rfl (lv_room (Nat.le_of_ble_eq_true rfl)) dX0_says_2 ⟨by show _ ≤ 8; omega, by show _ ≤ 1200; omega⟩) hG (fun E9 ce9 q9 Fx_271 Vx_272 ws_ H locs hpx hG hce => ?_) (fun r_268 F_269 V_270 ws_ H locs hp hG => ?_)
    · obtain ⟨rfl, hle_Fx_271, hq9, rfl, rfl⟩ := hpx
      have hG : gW X Fx_271 V (Z) s H locs := hG
      refine g_catch (name := "LineRemarks$Refused") hown htab [] ⟨0, 24, 25, 21⟩ [] rfl (fun z9 hz9 => absurd hz9 List.not_mem_nil) (by decide) (by decide) (hts _ q410) (hG.1.2.1.1 _ qn498) hce ?_
      refine lv_astore_n (lv' := [(3, .ref q9), (0, .ref x), (1, .int (zI v)), (2, .int (zI kk))]) hx hb dX0_says_25 rfl hl (by decide) rfl (fun ls hl => ?_)
      refine lv_aload_n hx hb dX0_says_26 rfl (lv_at hl 1 rfl) ?_
      refine lv_aload_n hx hb dX0_says_27 rfl (lv_at hl 0 rfl) ?_
      refine g_ci (va_runV (As := [.ref q9]) (rest := []) ⟨hx, hb, hml, hown, hts⟩ (metX0_refused (k := 1) (hS.mono hle_Fx_271) hA hq9 (by decide)) (cwV 1 hts (lw_V q589 q591 qs2 q87 q592) rfl rfl rfl (by decide +kernel) ⟨Nat.le_of_ble_eq_true rfl, Nat.le_of_ble_eq_true rfl⟩) (g_preV hG (g_recv hG (hG.vo hx0) (ci := 0) rfl)) rfl rfl hl.1 rfl (lv_room (Nat.le_of_ble_eq_true rfl)) dX0_says_28 ⟨by show _ ≤ 8; omega, by show _ ≤ 1200; omega⟩) hG (fun r_273 F_274 V_275 ws_ H locs hp hG => ?_)
      obtain ⟨rfl, rfl, hS9, rfl⟩ := hp
      have hG : gW X Fx_271 V_275 (Z) s H locs := hG
      refine vx_ret ?_
      exact g_iret hx hb hr hlocks hG (by have e9 : opSays a v kk = aNoR a 1 := (by unfold opSays; rw [if_pos (by omega)]); rw [e9]; exact ⟨hle_Fx_271, rfl, hS9.ex, rfl⟩) ⟨by show _ ≤ 8; omega, by show _ ≤ 1200; omega⟩ dX0_says_31
    exact hp.elim

set_option maxHeartbeats 4000000 in
theorem metX0_fault {l : Launch} {X : gX} {F : gF} {V : gV} {Z : va_W} {x sa rf tr tb kl wa rv rk st : Nat} {sh ra la ma : Nat → Nat} {im : Option Nat} {a : aS} (hS : xS X F V x a sa rf tr tb kl wa rv rk st sh ra la ma im) (hA : aOK a)  : Met l yX0_fault (ws_ yX0_fault cX0_fault 1 (some FieldType.int)) ({ frames := 0, cells := 0, slots := 0, locals := 0 }) (gP X F V (Z) [.ref x]) (gQi X (fun u G U ws => gLe F G ∧ u = zI (aFa a) ∧ xX X G U x a ∧ Z = ws)) 0 0 (gA X) := by
  refine Met.g (by decide) (Nat.le_of_ble_eq_true rfl) ?_
  intro p e s m below meth c ls hx hb hr hts hown hlocks hml hin hG hl
  have hl : lv_has ls 1 [(0, .ref x)] := hl
  have hSA := hS
  obtain ⟨hx0, ⟨fs9, hx1, hsh⟩, ⟨gr9, hx2, hgr⟩, hx3, hx4, hW, hx6, hx7⟩ := hSA
  have hSA := hS
  have hK := hA.w
  have hNN := hK.n
  have hMM := hK.m
  refine lv_aload_n hx hb dX0_fault_0 rfl (lv_at hl 0 rfl) ?_
  refine g_get (ci := 0) hx hb hts in_X0 hown hG (hG.vo hx0) rfl 6 (Nat.le_of_ble_eq_true rfl) (hts _ q390) (fun _ h9 => h9) rfl dX0_fault_1 ?_
  exact g_iret hx hb hr hlocks hG (⟨gLe.rfl (V := V), rfl, hS.ex, rfl⟩) ⟨Nat.le_of_ble_eq_true rfl, Nat.le_of_ble_eq_true rfl⟩ dX0_fault_4

