set_option maxRecDepth 100000
section XSG
variable {X : gX} {F G : gF} {V U : gV} {x : Nat} {a : aS} {sa rf tr tb kl wa rv rk st : Nat} {sh ra la ma : Nat → Nat} {im : Option Nat}
/-- the latest fault -/
theorem xS.setF {k : Int} (h : xS X F V x a sa rf tr tb kl wa rv rk st sh ra la ma im) (e : ∀ r, r ≠ 0 → U r = V r) (h0 : U 0 = some (x, oB 0 [.ref sa, .ref rf, .ref tr, .ref kl, .ref wa, va_rf im, .int (zI k)])) : xS X F U x (aSetF a k) sa rf tr tb kl wa rv rk st sh ra la ma im := by
  obtain ⟨-, h1, ⟨g, h2, h2'⟩, h3, h4, h5, h6, h7⟩ := h
  exact ⟨h0, h1, ⟨g, (e 1 (by omega)).trans h2, h2'⟩, h3.cg ⟨e 2 (by omega), e 3 (by omega)⟩, h4, h5.cg (fun r r1 r2 => e r (by omega)), h6.cg (fun r r1 r2 => e r (by omega)), fun i hi => (h7 i hi).cg ⟨e _ (by omega), e _ (by omega)⟩⟩
theorem aOK_setF {k : Int} (h : aOK a) (hk : -1 ≤ k ∧ k ≤ 160) : aOK (aSetF a k) := ⟨h.1, h.2.1, hk, h.2.2.2⟩
end XSG
set_option maxHeartbeats 500000 in
theorem metX0_revise {l : Launch} {X : gX} {F : gF} {V : gV} {Z : va_W} {x sa rf tr tb kl wa rv rk st : Nat} {sh ra la ma : Nat → Nat} {im : Option Nat} {a : aS} (hS : xS X F V x a sa rf tr tb kl wa rv rk st sh ra la ma im) (hA : aOK a) (hst : l.stackTraces = false) {v y : Int} (hrv : (-2147483648 ≤ v ∧ v < 2147483648)) (hry : (-2147483648 ≤ y ∧ y < 2147483648)) : vx_Met l yX0_revise (wsW_ yX0_revise cX0_revise 8 (some FieldType.int) [(33, 47, 50, 224), (0, 104, 105, 21)]) ({ frames := 9, cells := 680, slots := 13300, locals := 10278 }) (gP X F V (Z) [.ref x, .int (zI v), .int (zI y)]) (gQi X (fun u G U ws => gLe F G ∧ u = zI (opRevise a v y).1 ∧ xX X G U x (opRevise a v y).2 ∧ Z = ws)) (gXc X (fun _ _ _ _ _ => False)) 680 13300 (gA X) := by
  refine vx_Met.gH (by decide) (Nat.le_of_ble_eq_true rfl) ?_
  intro p e s m below meth c ls hx hb hr hts hown hlocks hml hin htab hG hl
  have hl : lv_has ls 8 [(0, .ref x), (1, .int (zI v)), (2, .int (zI y))] := hl
  have hSA := hS
  obtain ⟨hx0, ⟨fs9, hx1, hsh⟩, ⟨gr9, hx2, hgr⟩, hx3, hx4, hW, hx6, hx7⟩ := hSA
  have hSA := hS
  have hK := hA.w
  have hNN := hK.n
  have hMM := hK.m
  obtain ⟨hw0, ⟨fR, hw1, hwR⟩, ⟨fM, hw2, hwM⟩, ⟨fS, hw3, hwS⟩, hR, hMk⟩ := id hW
  have hw0 : V 4 = some (wa, oB 2 [.int (zI (wN (aWd a) : Int)), .int (zI (wM (aWd a) : Int)), .int (zI (wRun (aWd a) : Int)), .int (zI (wNeed (aWd a) : Int)), .int (zI (wMar (aWd a) : Int)), .int (wSeed (aWd a)), .ref rv, .ref rk, .ref st]) := hw0
  have hw1 : V 5 = some (rv, aR (gT X 7) 16 fR) := hw1
  have hw2 : V 6 = some (rk, aR (gT X 8) 16 fM) := hw2
  have hw3 : V 7 = some (st, aI (gT X 5) 16 fS) := hw3
  refine lv_aload_n hx hb dX0_revise_0 rfl (lv_at hl 0 rfl) ?_
  refine lv_iload_n hx hb dX0_revise_1 rfl (lv_at hl 1 rfl) ?_
  by_cases hv7 : 0 ≤ v ∧ v ≤ 7
  · obtain ⟨v1, rfl⟩ : ∃ z : Nat, v = (z : Int) := ⟨v.toNat, by omega⟩
    refine g_xr (vx_runVX (As := [.int (zI (v1 : Int))]) (rest := []) ⟨hx, hb, hml, hown, hts⟩ (metX0_shelf_t (v := v1) hS hA (by omega)) (vx_cwVW 1 hts (lw_VW q411 q413 qs0 q87 q414) rfl rfl rfl (by decide +kernel) ⟨Nat.le_of_ble_eq_true rfl, Nat.le_of_ble_eq_true rfl⟩) (g_preV hG (g_recv hG (hG.vo hx0) (ci := 0) rfl)) rfl rfl hl.1 rfl (lv_room (Nat.le_of_ble_eq_true rfl)) dX0_revise_2 ⟨by show _ ≤ 680; omega, by show _ ≤ 13300; omega⟩) hG (fun E9 ce9 q9 Fx_4 Vx_5 ws_ H locs hpx hG hce => ?_) (fun r_1 F_2 V_3 ws_ H locs hp hG => ?_)
    · exact hpx.elim
    obtain ⟨rfl, rfl, rfl, rfl⟩ := hp
    have hG : gW X F V (Z) s H locs := hG
    refine lv_astore_n (lv' := [(3, .ref (sh v1)), (0, .ref x), (1, .int (zI (v1 : Int))), (2, .int (zI y))]) hx hb dX0_revise_5 rfl hl (by decide) rfl (fun ls hl => ?_)
    refine lv_iload_n hx hb dX0_revise_6 rfl (lv_at hl 3 rfl) ?_
    refine lv_iconst (v := zI (-1)) hx hb dX0_revise_7 (by decide +kernel) ?_
    by_cases hy1 : y = -1
    · have hs_6 : -1 = y := by omega
      subst hs_6
      refine g_cne (tgt := 15) hx hb dX0_revise_8 (by decide) (by omega) (fun hq => ?_) (fun hq => ?_)
      · exfalso; omega
      · refine lv_null hx hb dX0_revise_11 ?_
        refine lv_goto (tgt := 20) hx hb dX0_revise_12 (by decide) ?_
        refine lv_astoreN (lv' := [(4, .null), (3, .ref (sh v1)), (0, .ref x), (1, .int (zI (v1 : Int))), (2, .int (zI (-1)))]) hx hb dX0_revise_20 hl (by decide) rfl (fun ls hl => ?_)
        refine lv_aload_n hx hb dX0_revise_22 rfl (lv_at hl 1 rfl) ?_
        have hx7v := hx7 v1 (by omega)
        have hok7 := hA.2.1 v1
        have hMk7 := hW.2.2.2.2.2
        rcases hsvv : aSv a v1 with _ | m1 | ⟨so1, n9, f9⟩
        · rw [hsvv] at hx7v
          have hsv : V (20 + v1) = some (sh v1, oB 3 [.null]) := hx7v
          refine g_xr (vx_runVX (As := []) (rest := []) ⟨hx, hb, hml, hown, hts⟩ (metX3_row_n (rj := 20 + v1) hsv) (vx_cwVW 0 hts (lw_VW q597 q598 q599 q101 q600) rfl rfl rfl (by decide +kernel) ⟨Nat.le_of_ble_eq_true rfl, Nat.le_of_ble_eq_true rfl⟩) (g_preV hG (g_recv hG (hG.vo hsv) (ci := 3) rfl)) rfl rfl hl.1 rfl (lv_room (Nat.le_of_ble_eq_true rfl)) dX0_revise_23 ⟨by show _ ≤ 680; omega, by show _ ≤ 13300; omega⟩) hG (fun E9 ce9 q9 Fx_10 Vx_11 ws_ H locs hpx hG hce => ?_) (fun r_7 F_8 V_9 ws_ H locs hp hG => ?_)
          · obtain ⟨rfl, hle_Fx_10, hq9, rfl, rfl⟩ := hpx
            have hG : gW X Fx_10 V (Z) s H locs := hG
            refine g_catch (name := "LineRemarks$Refused") hown htab [⟨33, 47, 50, 224⟩] ⟨0, 104, 105, 21⟩ [] rfl (List.forall_mem_cons.mpr ⟨Or.inl (by decide), (fun z9 hz9 => absurd hz9 List.not_mem_nil)⟩) (by decide) (by decide) (hts _ q410) (hG.1.2.1.1 _ qn498) hce ?_
            refine lv_astore_n (lv' := [(3, .ref q9), (4, .null), (0, .ref x), (1, .int (zI (v1 : Int))), (2, .int (zI (-1)))]) hx hb dX0_revise_105 rfl hl (by decide) rfl (fun ls hl => ?_)
            refine lv_aload_n hx hb dX0_revise_106 rfl (lv_at hl 2 rfl) ?_
            refine lv_aload_n hx hb dX0_revise_107 rfl (lv_at hl 0 rfl) ?_
            refine g_ci (va_runV (As := [.ref q9]) (rest := []) ⟨hx, hb, hml, hown, hts⟩ (metX0_refused (k := 3) (hS.mono hle_Fx_10) hA hq9 (by decide)) (cwV 1 hts (lw_V q589 q591 qs2 q87 q592) rfl rfl rfl (by decide +kernel) ⟨Nat.le_of_ble_eq_true rfl, Nat.le_of_ble_eq_true rfl⟩) (g_preV hG (g_recv hG (hG.vo hx0) (ci := 0) rfl)) rfl rfl hl.1 rfl (lv_room (Nat.le_of_ble_eq_true rfl)) dX0_revise_108 ⟨by show _ ≤ 680; omega, by show _ ≤ 13300; omega⟩) hG (fun r_12 F_13 V_14 ws_ H locs hp hG => ?_)
            obtain ⟨rfl, rfl, hS9, rfl⟩ := hp
            have hG : gW X Fx_10 V_14 (Z) s H locs := hG
            refine vx_ret ?_
            exact g_iret hx hb hr hlocks hG (by have e9 : opRevise a (v1 : Int) (-1) = aNoR a 3 := (by unfold opRevise; rw [if_neg (by omega), show aSv a ((v1 : Nat) : Int).toNat = none from hsvv]; first | done | rfl); rw [e9]; exact ⟨hle_Fx_10, rfl, hS9.ex, rfl⟩) ⟨by show _ ≤ 680; omega, by show _ ≤ 13300; omega⟩ dX0_revise_111
          exact hp.elim
        · rw [hsvv] at hx7v hok7
          have hm1 : m1 < wM (aWd a) := hok7
          have hsv : V (20 + v1) = some (sh v1, oB 3 [.ref (ma m1)]) := hx7v
          have hrm1 := hMk7 m1 hm1
          have hkd1 := (hK.rk hm1).1
          refine g_xr (vx_runVX (As := []) (rest := []) ⟨hx, hb, hml, hown, hts⟩ (metX3_row_f (rj := 20 + v1) hsv (rm_ncR hkd1 hrm1) hst) (vx_cwVW 0 hts (lw_VW q597 q598 q599 q101 q600) rfl rfl rfl (by decide +kernel) ⟨Nat.le_of_ble_eq_true rfl, Nat.le_of_ble_eq_true rfl⟩) (g_preV hG (g_recv hG (hG.vo hsv) (ci := 3) rfl)) rfl rfl hl.1 rfl (lv_room (Nat.le_of_ble_eq_true rfl)) dX0_revise_23 ⟨by show _ ≤ 680; omega, by show _ ≤ 13300; omega⟩) hG (fun E9 ce9 q9 Fx_18 Vx_19 ws_ H locs hpx hG hce => ?_) (fun r_15 F_16 V_17 ws_ H locs hp hG => ?_)
          · obtain ⟨rfl, hle_Fx_18, hq9, rfl, rfl⟩ := hpx
            have hG : gW X Fx_18 V (Z) s H locs := hG
            refine g_catch (name := "LineRemarks$Refused") hown htab [⟨33, 47, 50, 224⟩] ⟨0, 104, 105, 21⟩ [] rfl (List.forall_mem_cons.mpr ⟨Or.inl (by decide), (fun z9 hz9 => absurd hz9 List.not_mem_nil)⟩) (by decide) (by decide) (hts _ q410) (hG.1.2.1.1 _ qn498) hce ?_
            refine lv_astore_n (lv' := [(3, .ref q9), (4, .null), (0, .ref x), (1, .int (zI (v1 : Int))), (2, .int (zI (-1)))]) hx hb dX0_revise_105 rfl hl (by decide) rfl (fun ls hl => ?_)
            refine lv_aload_n hx hb dX0_revise_106 rfl (lv_at hl 2 rfl) ?_
            refine lv_aload_n hx hb dX0_revise_107 rfl (lv_at hl 0 rfl) ?_
            refine g_ci (va_runV (As := [.ref q9]) (rest := []) ⟨hx, hb, hml, hown, hts⟩ (metX0_refused (k := 2) (hS.mono hle_Fx_18) hA hq9 (by decide)) (cwV 1 hts (lw_V q589 q591 qs2 q87 q592) rfl rfl rfl (by decide +kernel) ⟨Nat.le_of_ble_eq_true rfl, Nat.le_of_ble_eq_true rfl⟩) (g_preV hG (g_recv hG (hG.vo hx0) (ci := 0) rfl)) rfl rfl hl.1 rfl (lv_room (Nat.le_of_ble_eq_true rfl)) dX0_revise_108 ⟨by show _ ≤ 680; omega, by show _ ≤ 13300; omega⟩) hG (fun r_20 F_21 V_22 ws_ H locs hp hG => ?_)
            obtain ⟨rfl, rfl, hS9, rfl⟩ := hp
            have hG : gW X Fx_18 V_22 (Z) s H locs := hG
            refine vx_ret ?_
            exact g_iret hx hb hr hlocks hG (by have e9 : opRevise a (v1 : Int) (-1) = aNoR a 2 := (by unfold opRevise; rw [if_neg (by omega), show aSv a ((v1 : Nat) : Int).toNat = some (.inl m1) from hsvv]; first | done | rfl); rw [e9]; exact ⟨hle_Fx_18, rfl, hS9.ex, rfl⟩) ⟨by show _ ≤ 680; omega, by show _ ≤ 13300; omega⟩ dX0_revise_111
          exact hp.elim
        · rw [hsvv] at hx7v hok7
          obtain ⟨ro, ar, hsv, hro, hVr, hfx⟩ := hx7v
          obtain ⟨hso, hn160⟩ : so1 ≤ 3 ∧ n9 ≤ 160 := hok7
          refine g_xr (vx_runVX (As := []) (rest := []) ⟨hx, hb, hml, hown, hts⟩ (metX3_row_t (rj := 20 + v1) hsv hso hro) (vx_cwVW 0 hts (lw_VW q597 q598 q599 q101 q600) rfl rfl rfl (by decide +kernel) ⟨Nat.le_of_ble_eq_true rfl, Nat.le_of_ble_eq_true rfl⟩) (g_preV hG (g_recv hG (hG.vo hsv) (ci := 3) rfl)) rfl rfl hl.1 rfl (lv_room (Nat.le_of_ble_eq_true rfl)) dX0_revise_23 ⟨by show _ ≤ 680; omega, by show _ ≤ 13300; omega⟩) hG (fun E9 ce9 q9 Fx_26 Vx_27 ws_ H locs hpx hG hce => ?_) (fun r_23 F_24 V_25 ws_ H locs hp hG => ?_)
          · exact hpx.elim
          obtain ⟨rfl, rfl, rfl, rfl⟩ := hp
          have hG : gW X F V (Z) s H locs := hG
          refine lv_astore (lv' := [(5, .ref ro), (4, .null), (3, .ref (sh v1)), (0, .ref x), (1, .int (zI (v1 : Int))), (2, .int (zI (-1)))]) hx hb dX0_revise_26 hl (by decide) rfl (fun ls hl => ?_)
          refine lv_aload_n hx hb dX0_revise_28 rfl (lv_at hl 3 rfl) ?_
          refine lv_iconst (v := zI (-1)) hx hb dX0_revise_29 (by decide +kernel) ?_
          refine g_putV (ci := 0) hx hb hts in_X0 tyX0 tyX0_ok nmX0 hown hG hx0 rfl 6 (Nat.le_of_ble_eq_true rfl) (hts _ q390) (fun _ h9 => h9) rfl (tyX0_ok 6 (Nat.le_of_ble_eq_true rfl)) rfl rfl (Nat.le_of_ble_eq_true rfl) dX0_revise_30 (fun H locs (hG : gW X F (va_up V 0 (some (x, oB 0 [.ref sa, .ref rf, .ref tr, .ref kl, .ref wa, va_rf im, .int (zI (-1))]))) (Z) s H locs) => ?_)
          have hx0 : (va_up V 0 (some (x, oB 0 [.ref sa, .ref rf, .ref tr, .ref kl, .ref wa, va_rf im, .int (zI (-1))]))) 0 = some (x, oB 0 [.ref sa, .ref rf, .ref tr, .ref kl, .ref wa, va_rf im, .int (zI (-1))]) := vus
          have hx2 : (va_up V 0 (some (x, oB 0 [.ref sa, .ref rf, .ref tr, .ref kl, .ref wa, va_rf im, .int (zI (-1))]))) 1 = some (rf, aI (gT X 0) 8 gr9) := (vun (by decide)).trans hx2
          have hw0 : (va_up V 0 (some (x, oB 0 [.ref sa, .ref rf, .ref tr, .ref kl, .ref wa, va_rf im, .int (zI (-1))]))) 4 = some (wa, oB 2 [.int (zI (wN (aWd a) : Int)), .int (zI (wM (aWd a) : Int)), .int (zI (wRun (aWd a) : Int)), .int (zI (wNeed (aWd a) : Int)), .int (zI (wMar (aWd a) : Int)), .int (wSeed (aWd a)), .ref rv, .ref rk, .ref st]) := (vun (by decide)).trans hw0
          have hw1 : (va_up V 0 (some (x, oB 0 [.ref sa, .ref rf, .ref tr, .ref kl, .ref wa, va_rf im, .int (zI (-1))]))) 5 = some (rv, aR (gT X 7) 16 fR) := (vun (by decide)).trans hw1
          have hw2 : (va_up V 0 (some (x, oB 0 [.ref sa, .ref rf, .ref tr, .ref kl, .ref wa, va_rf im, .int (zI (-1))]))) 6 = some (rk, aR (gT X 8) 16 fM) := (vun (by decide)).trans hw2
          have hw3 : (va_up V 0 (some (x, oB 0 [.ref sa, .ref rf, .ref tr, .ref kl, .ref wa, va_rf im, .int (zI (-1))]))) 7 = some (st, aI (gT X 5) 16 fS) := (vun (by decide)).trans hw3
          have hsv : (va_up V 0 (some (x, oB 0 [.ref sa, .ref rf, .ref tr, .ref kl, .ref wa, va_rf im, .int (zI (-1))]))) (20 + v1) = some ((sh v1), oB 3 [.ref ro]) := (vun (by omega)).trans hsv
          refine g_new (ci := 9) hx hb hts in_X11 tyX11 tyX11_ok hown (hts _ q745) (hts _ q746) (hts _ q118) hG rfl (fs := [.null, .null, .null, .int (zI 0)]) rfl ⟨by show _ ≤ 680; omega, by show _ ≤ 13300; omega⟩ dX0_revise_33 (fun rd H (hG : gW X F (va_up V 0 (some (x, oB 0 [.ref sa, .ref rf, .ref tr, .ref kl, .ref wa, va_rf im, .int (zI (-1))]))) ((rd, oB 9 [.null, .null, .null, .int (zI 0)]) :: Z) s H _) => ?_)
          refine lv_dup hx hb dX0_revise_36 rfl ?_
          refine lv_aload hx hb dX0_revise_37 (lv_at hl 0 rfl) ?_
          refine g_cv (va_runI (As := [.ref ro]) (rest := [.ref rd]) ⟨hx, hb, hml, hown, hts⟩ (metX11_init) (cwI 1 hts (lw_meth q749) rfl rfl rfl (hts _ q118) (hts _ q747) (hts _ q748) rfl (by decide +kernel) ⟨Nat.le_of_ble_eq_true rfl, Nat.le_of_ble_eq_true rfl⟩) (g_preS hG) rfl rfl hl.1 rfl (lv_room (Nat.le_of_ble_eq_true rfl)) dX0_revise_39 ⟨by show _ ≤ 680; omega, by show _ ≤ 13300; omega⟩) hG (fun F_29 V_30 ws_ H locs hp hG => ?_)
          obtain ⟨rfl, rfl, le, al, rfl⟩ := hp
          have hG : gW X F (va_up V 0 (some (x, oB 0 [.ref sa, .ref rf, .ref tr, .ref kl, .ref wa, va_rf im, .int (zI (-1))]))) ((rd, oB 9 [.ref ro, .ref le, .ref al, .int (zI 0)]) :: (le, aI (gT X 2) 8 (fun _ => 0)) :: (al, oB 25 [.int (zI 0), .ref (ga X 300), .int (zI 0)]) :: Z) s H locs := hG
          have hSf := hS.setF (U := (va_up V 0 (some (x, oB 0 [.ref sa, .ref rf, .ref tr, .ref kl, .ref wa, va_rf im, .int (zI (-1))])))) (k := -1) (fun r9 h9 => va_up_ne _ _ h9) hx0
          have hAf := aOK_setF hA (show (-1 : Int) ≤ -1 ∧ (-1 : Int) ≤ 160 by decide)
          have hVr : (va_up V 0 (some (x, oB 0 [.ref sa, .ref rf, .ref tr, .ref kl, .ref wa, va_rf im, .int (zI (-1))]))) (40 + v1) = some (ar, rwE X so1 n9 f9) := (va_up_ne _ _ (by omega)).trans hVr
          refine g_xr (vx_runV (As := []) (rest := []) ⟨hx, hb, hml, hown, hts⟩ (metX11_whole hso hro hVr hfx hn160) (cwV 0 hts (lw_V q795 q796 q797 q118 q798) rfl rfl rfl (by decide +kernel) ⟨Nat.le_of_ble_eq_true rfl, Nat.le_of_ble_eq_true rfl⟩) (g_preV hG (g_recv hG (hG.at 0 rfl) (ci := 9) rfl)) rfl rfl hl.1 rfl (lv_room (Nat.le_of_ble_eq_true rfl)) dX0_revise_42 ⟨by show _ ≤ 680; omega, by show _ ≤ 13300; omega⟩) hG (fun E9 ce9 q9 Fx_32 Vx_33 ws_ H locs hpx hG hce => ?_) (fun tx G1 V_31 ws_ H locs hp hG => ?_)
          · obtain ⟨rfl, hle_Fx_32, ⟨k9, hrr9, hq9⟩, rfl, rfl⟩ := hpx
            have hG : gW X Fx_32 (va_up V 0 (some (x, oB 0 [.ref sa, .ref rf, .ref tr, .ref kl, .ref wa, va_rf im, .int (zI (-1))]))) (Z) s H locs := hG
            have hk160 : k9 ≤ 160 := by have := rdR_le hrr9; omega
            refine g_catch (name := "LineRemarks$Faulty") hown htab [] ⟨33, 47, 50, 224⟩ [⟨0, 104, 105, 21⟩] rfl (fun z9 hz9 => absurd hz9 List.not_mem_nil) (by decide) (by decide) (hts _ q736) (hG.1.2.1.1 _ qn841) hce ?_
            refine lv_astore (lv' := [(7, .ref q9), (5, .ref ro), (4, .null), (3, .ref (sh v1)), (0, .ref x), (1, .int (zI (v1 : Int))), (2, .int (zI (-1)))]) hx hb dX0_revise_50 hl (by decide) rfl (fun ls hl => ?_)
            refine lv_aload_n hx hb dX0_revise_52 rfl (lv_at hl 4 rfl) ?_
            refine lv_aload hx hb dX0_revise_53 (lv_at hl 0 rfl) ?_
            refine g_get (ci := 10) hx hb hts in_X12 hown hG (hG.fz (show Fx_32.1 q9 = some _ from hq9)) rfl 6 (Nat.le_of_ble_eq_true rfl) (hts _ q853) (fun _ h9 => h9) rfl dX0_revise_55 ?_
            refine g_putV (ci := 0) hx hb hts in_X0 tyX0 tyX0_ok nmX0 hown hG hx0 rfl 6 (Nat.le_of_ble_eq_true rfl) (hts _ q390) (fun _ h9 => h9) rfl (tyX0_ok 6 (Nat.le_of_ble_eq_true rfl)) rfl rfl (Nat.le_of_ble_eq_true rfl) dX0_revise_58 (fun H locs (hG : gW X Fx_32 (va_up (va_up V 0 (some (x, oB 0 [.ref sa, .ref rf, .ref tr, .ref kl, .ref wa, va_rf im, .int (zI (-1))]))) 0 (some (x, oB 0 [.ref sa, .ref rf, .ref tr, .ref kl, .ref wa, va_rf im, .int (zI (k9 : Int))]))) (Z) s H locs) => ?_)
            have hx0 : (va_up (va_up V 0 (some (x, oB 0 [.ref sa, .ref rf, .ref tr, .ref kl, .ref wa, va_rf im, .int (zI (-1))]))) 0 (some (x, oB 0 [.ref sa, .ref rf, .ref tr, .ref kl, .ref wa, va_rf im, .int (zI (k9 : Int))]))) 0 = some (x, oB 0 [.ref sa, .ref rf, .ref tr, .ref kl, .ref wa, va_rf im, .int (zI (k9 : Int))]) := vus
            have hx2 : (va_up (va_up V 0 (some (x, oB 0 [.ref sa, .ref rf, .ref tr, .ref kl, .ref wa, va_rf im, .int (zI (-1))]))) 0 (some (x, oB 0 [.ref sa, .ref rf, .ref tr, .ref kl, .ref wa, va_rf im, .int (zI (k9 : Int))]))) 1 = some (rf, aI (gT X 0) 8 gr9) := (vun (by decide)).trans hx2
            have hw0 : (va_up (va_up V 0 (some (x, oB 0 [.ref sa, .ref rf, .ref tr, .ref kl, .ref wa, va_rf im, .int (zI (-1))]))) 0 (some (x, oB 0 [.ref sa, .ref rf, .ref tr, .ref kl, .ref wa, va_rf im, .int (zI (k9 : Int))]))) 4 = some (wa, oB 2 [.int (zI (wN (aWd a) : Int)), .int (zI (wM (aWd a) : Int)), .int (zI (wRun (aWd a) : Int)), .int (zI (wNeed (aWd a) : Int)), .int (zI (wMar (aWd a) : Int)), .int (wSeed (aWd a)), .ref rv, .ref rk, .ref st]) := (vun (by decide)).trans hw0
            have hw1 : (va_up (va_up V 0 (some (x, oB 0 [.ref sa, .ref rf, .ref tr, .ref kl, .ref wa, va_rf im, .int (zI (-1))]))) 0 (some (x, oB 0 [.ref sa, .ref rf, .ref tr, .ref kl, .ref wa, va_rf im, .int (zI (k9 : Int))]))) 5 = some (rv, aR (gT X 7) 16 fR) := (vun (by decide)).trans hw1
            have hw2 : (va_up (va_up V 0 (some (x, oB 0 [.ref sa, .ref rf, .ref tr, .ref kl, .ref wa, va_rf im, .int (zI (-1))]))) 0 (some (x, oB 0 [.ref sa, .ref rf, .ref tr, .ref kl, .ref wa, va_rf im, .int (zI (k9 : Int))]))) 6 = some (rk, aR (gT X 8) 16 fM) := (vun (by decide)).trans hw2
            have hw3 : (va_up (va_up V 0 (some (x, oB 0 [.ref sa, .ref rf, .ref tr, .ref kl, .ref wa, va_rf im, .int (zI (-1))]))) 0 (some (x, oB 0 [.ref sa, .ref rf, .ref tr, .ref kl, .ref wa, va_rf im, .int (zI (k9 : Int))]))) 7 = some (st, aI (gT X 5) 16 fS) := (vun (by decide)).trans hw3
            have hsv : (va_up (va_up V 0 (some (x, oB 0 [.ref sa, .ref rf, .ref tr, .ref kl, .ref wa, va_rf im, .int (zI (-1))]))) 0 (some (x, oB 0 [.ref sa, .ref rf, .ref tr, .ref kl, .ref wa, va_rf im, .int (zI (k9 : Int))]))) (20 + v1) = some ((sh v1), oB 3 [.ref ro]) := (vun (by omega)).trans hsv
            have hSk := (hS.mono hle_Fx_32).setF (U := (va_up (va_up V 0 (some (x, oB 0 [.ref sa, .ref rf, .ref tr, .ref kl, .ref wa, va_rf im, .int (zI (-1))]))) 0 (some (x, oB 0 [.ref sa, .ref rf, .ref tr, .ref kl, .ref wa, va_rf im, .int (zI (k9 : Int))])))) (k := (k9 : Int)) (fun r9 h9 => (va_up_ne _ _ h9).trans (va_up_ne _ _ h9)) hx0
            have hAk := aOK_setF hA (show (-1 : Int) ≤ (k9 : Int) ∧ (k9 : Int) ≤ 160 by omega)
            obtain ⟨qa, hqa⟩ : ∃ z, z = q9 := ⟨_, rfl⟩
            rw [← hqa] at hl
            refine g_new (ci := 4) hx hb hts in_X5 tyX5 tyX5_ok hown (hts _ q410) (hts _ q497) (hts _ q109) hG rfl (fs := [.null, .null, .null, .null, .null, .int (zI 0), .int (zI 0)]) rfl ⟨by show _ ≤ 680; omega, by show _ ≤ 13300; omega⟩ dX0_revise_61 (fun q9 H (hG : gW X Fx_32 (va_up (va_up V 0 (some (x, oB 0 [.ref sa, .ref rf, .ref tr, .ref kl, .ref wa, va_rf im, .int (zI (-1))]))) 0 (some (x, oB 0 [.ref sa, .ref rf, .ref tr, .ref kl, .ref wa, va_rf im, .int (zI (k9 : Int))]))) ((q9, oB 4 [.null, .null, .null, .null, .null, .int (zI 0), .int (zI 0)]) :: Z) s H _) => ?_)
            refine lv_dup hx hb dX0_revise_64 rfl ?_
            refine lv_bipush (v := zI (-6)) hx hb dX0_revise_65 (by decide +kernel) ?_
            refine g_cv (va_runI (As := [.int (zI (-6))]) (rest := [.ref q9]) ⟨hx, hb, hml, hown, hts⟩ (metX5_init) (cwI 1 hts (lw_meth q507) rfl rfl rfl (hts _ q109) (hts _ q505) (hts _ q506) rfl (by decide +kernel) ⟨Nat.le_of_ble_eq_true rfl, Nat.le_of_ble_eq_true rfl⟩) (g_preS hG) rfl rfl hl.1 rfl (lv_room (Nat.le_of_ble_eq_true rfl)) dX0_revise_67 ⟨by show _ ≤ 680; omega, by show _ ≤ 13300; omega⟩) hG (fun F_35 V_36 ws_ H locs hp hG => ?_)
            obtain ⟨rfl, rfl, rfl⟩ := hp
            have hG : gW X Fx_32 (va_up (va_up V 0 (some (x, oB 0 [.ref sa, .ref rf, .ref tr, .ref kl, .ref wa, va_rf im, .int (zI (-1))]))) 0 (some (x, oB 0 [.ref sa, .ref rf, .ref tr, .ref kl, .ref wa, va_rf im, .int (zI (k9 : Int))]))) ((q9, oB 4 [.null, .null, .null, .null, .null, .int (zI 0), .int (zI (-6))]) :: Z) s H locs := hG
            obtain ⟨G8, hle_G8, hq9, hG⟩ := hG.freeze
            have hG : gW X G8 (va_up (va_up V 0 (some (x, oB 0 [.ref sa, .ref rf, .ref tr, .ref kl, .ref wa, va_rf im, .int (zI (-1))]))) 0 (some (x, oB 0 [.ref sa, .ref rf, .ref tr, .ref kl, .ref wa, va_rf im, .int (zI (k9 : Int))]))) (Z) s _ _ := hG
            refine vx_athrow hx hb dX0_revise_70 ?_
            have hq9 : isRef G8 q9 6 := hq9
            obtain ⟨ce9, hce⟩ := ex_cell hG hq9 (k := (RX5, TX5, 7)) rfl
            refine g_catch (name := "LineRemarks$Refused") hown htab [⟨33, 47, 50, 224⟩] ⟨0, 104, 105, 21⟩ [] rfl (List.forall_mem_cons.mpr ⟨Or.inl (by decide), (fun z9 hz9 => absurd hz9 List.not_mem_nil)⟩) (by decide) (by decide) (hts _ q410) (hG.1.2.1.1 _ qn498) hce ?_
            refine lv_astore_n (lv' := [(3, .ref q9), (7, .ref qa), (5, .ref ro), (4, .null), (0, .ref x), (1, .int (zI (v1 : Int))), (2, .int (zI (-1)))]) hx hb dX0_revise_105 rfl hl (by decide) rfl (fun ls hl => ?_)
            refine lv_aload_n hx hb dX0_revise_106 rfl (lv_at hl 4 rfl) ?_
            refine lv_aload_n hx hb dX0_revise_107 rfl (lv_at hl 0 rfl) ?_
            refine g_ci (va_runV (As := [.ref q9]) (rest := []) ⟨hx, hb, hml, hown, hts⟩ (metX0_refused (k := 6) (hSk.mono hle_G8) hAk hq9 (by decide)) (cwV 1 hts (lw_V q589 q591 qs2 q87 q592) rfl rfl rfl (by decide +kernel) ⟨Nat.le_of_ble_eq_true rfl, Nat.le_of_ble_eq_true rfl⟩) (g_preV hG (g_recv hG (hG.vo hx0) (ci := 0) rfl)) rfl rfl hl.1 rfl (lv_room (Nat.le_of_ble_eq_true rfl)) dX0_revise_108 ⟨by show _ ≤ 680; omega, by show _ ≤ 13300; omega⟩) hG (fun r_37 F_38 V_39 ws_ H locs hp hG => ?_)
            obtain ⟨rfl, rfl, hS9, rfl⟩ := hp
            have hG : gW X G8 V_39 (Z) s H locs := hG
            refine vx_ret ?_
            exact g_iret hx hb hr hlocks hG (by have e9 : opRevise a (v1 : Int) (-1) = aNoR (aSetF a (k9 : Int)) 6 := (by unfold opRevise; rw [if_neg (by omega), show aSv a ((v1 : Nat) : Int).toNat = some (.inr (so1, n9, f9)) from hsvv]; show (match rdR (rwI f9) n9 with | .inr k => aNoR (aSetF a k) 6 | .inl t => if wN (aWd a) = 16 then aNoR (aSetF a (-1)) 7 else (wN (aWd a), aSetW (aSetF a (-1)) (wAdd (aWd a) (iO _) t))) = _; rw [hrr9]); rw [e9]; exact ⟨(hle_Fx_32.tr hle_G8), rfl, hS9.ex, rfl⟩) ⟨by show _ ≤ 680; omega, by show _ ≤ 13300; omega⟩ dX0_revise_111
          obtain ⟨hle_G1, rfl, ⟨t9, hrr9, htx9⟩, rfl⟩ := hp
          have hG : gW X G1 (va_up V 0 (some (x, oB 0 [.ref sa, .ref rf, .ref tr, .ref kl, .ref wa, va_rf im, .int (zI (-1))]))) (Z) s H locs := hG
          refine lv_astore (lv' := [(6, .ref tx), (5, .ref ro), (4, .null), (3, .ref (sh v1)), (0, .ref x), (1, .int (zI (v1 : Int))), (2, .int (zI (-1)))]) hx hb dX0_revise_45 hl (by decide) rfl (fun ls hl => ?_)
          refine lv_goto (tgt := 71) hx hb dX0_revise_47 (by decide) ?_
          refine lv_aload_n hx hb dX0_revise_71 rfl (lv_at hl 4 rfl) ?_
          refine g_get (ci := 0) hx hb hts in_X0 hown hG (hG.vo hx0) rfl 4 (Nat.le_of_ble_eq_true rfl) (hts _ q388) (fun _ h9 => h9) rfl dX0_revise_72 ?_
          refine g_get (ci := 2) hx hb hts in_X2 hown hG (hG.vo hw0) rfl 0 (Nat.le_of_ble_eq_true rfl) (hts _ q334) (fun _ h9 => h9) rfl dX0_revise_75 ?_
          refine lv_bipush (v := zI 16) hx hb dX0_revise_78 (by decide +kernel) ?_
          refine g_cge (tgt := 87) hx hb dX0_revise_80 (by decide) (by omega) (fun h7 => ?_) (fun h7 => ?_)
          · refine lv_iconst (v := zI 0) hx hb dX0_revise_87 (by decide +kernel) ?_
            refine lv_bipush (v := zI (-7)) hx hb dX0_revise_88 (by decide +kernel) ?_
            refine g_xv (vx_runS (As := [.int (zI 0), .int (zI (-7))]) (rest := []) ⟨hx, hb, hml, hown, hts⟩ (metX0_need_f (k := 7)) (va_cwS 2 hts (lw_S q520 q521 q87 q522) rfl rfl rfl (by decide +kernel) ⟨Nat.le_of_ble_eq_true rfl, Nat.le_of_ble_eq_true rfl⟩) (g_preS hG) rfl rfl hl.1 rfl (lv_room (Nat.le_of_ble_eq_true rfl)) dX0_revise_90 ⟨by show _ ≤ 680; omega, by show _ ≤ 13300; omega⟩) hG (fun E9 ce9 q9 Fx_43 Vx_44 ws_ H locs hpx hG hce => ?_) (fun F_41 V_42 ws_ H locs hp hG => ?_)
            · obtain ⟨rfl, hle_Fx_43, hq9, rfl, rfl⟩ := hpx
              have hG : gW X Fx_43 (va_up V 0 (some (x, oB 0 [.ref sa, .ref rf, .ref tr, .ref kl, .ref wa, va_rf im, .int (zI (-1))]))) (Z) s H locs := hG
              refine g_catch (name := "LineRemarks$Refused") hown htab [⟨33, 47, 50, 224⟩] ⟨0, 104, 105, 21⟩ [] rfl (List.forall_mem_cons.mpr ⟨Or.inl (by decide), (fun z9 hz9 => absurd hz9 List.not_mem_nil)⟩) (by decide) (by decide) (hts _ q410) (hG.1.2.1.1 _ qn498) hce ?_
              refine lv_astore_n (lv' := [(3, .ref q9), (6, .ref tx), (5, .ref ro), (4, .null), (0, .ref x), (1, .int (zI (v1 : Int))), (2, .int (zI (-1)))]) hx hb dX0_revise_105 rfl hl (by decide) rfl (fun ls hl => ?_)
              refine lv_aload_n hx hb dX0_revise_106 rfl (lv_at hl 4 rfl) ?_
              refine lv_aload_n hx hb dX0_revise_107 rfl (lv_at hl 0 rfl) ?_
              refine g_ci (va_runV (As := [.ref q9]) (rest := []) ⟨hx, hb, hml, hown, hts⟩ (metX0_refused (k := 7) (hSf.mono (hle_G1.tr hle_Fx_43)) hAf hq9 (by decide)) (cwV 1 hts (lw_V q589 q591 qs2 q87 q592) rfl rfl rfl (by decide +kernel) ⟨Nat.le_of_ble_eq_true rfl, Nat.le_of_ble_eq_true rfl⟩) (g_preV hG (g_recv hG (hG.vo hx0) (ci := 0) rfl)) rfl rfl hl.1 rfl (lv_room (Nat.le_of_ble_eq_true rfl)) dX0_revise_108 ⟨by show _ ≤ 680; omega, by show _ ≤ 13300; omega⟩) hG (fun r_45 F_46 V_47 ws_ H locs hp hG => ?_)
              obtain ⟨rfl, rfl, hS9, rfl⟩ := hp
              have hG : gW X Fx_43 V_47 (Z) s H locs := hG
              refine vx_ret ?_
              exact g_iret hx hb hr hlocks hG (by have e9 : opRevise a (v1 : Int) (-1) = aNoR (aSetF a (-1)) 7 := (by unfold opRevise; rw [if_neg (by omega), show aSv a ((v1 : Nat) : Int).toNat = some (.inr (so1, n9, f9)) from hsvv]; show (match rdR (rwI f9) n9 with | .inr k => aNoR (aSetF a k) 6 | .inl t => if wN (aWd a) = 16 then aNoR (aSetF a (-1)) 7 else (wN (aWd a), aSetW (aSetF a (-1)) (wAdd (aWd a) (iO _) t))) = _; rw [hrr9]; exact if_pos (by omega)); rw [e9]; exact ⟨(hle_G1.tr hle_Fx_43), rfl, hS9.ex, rfl⟩) ⟨by show _ ≤ 680; omega, by show _ ≤ 13300; omega⟩ dX0_revise_111
            exact hp.elim
          · refine lv_iconst (v := zI 1) hx hb dX0_revise_83 (by decide +kernel) ?_
            refine lv_goto (tgt := 88) hx hb dX0_revise_84 (by decide) ?_
            refine lv_bipush (v := zI (-7)) hx hb dX0_revise_88 (by decide +kernel) ?_
            refine g_cv (va_runS (As := [.int (zI 1), .int (zI (-7))]) (rest := []) ⟨hx, hb, hml, hown, hts⟩ (metX0_need_t (b := 1) (by decide)) (va_cwS 2 hts (lw_S q520 q521 q87 q522) rfl rfl rfl (by decide +kernel) ⟨Nat.le_of_ble_eq_true rfl, Nat.le_of_ble_eq_true rfl⟩) (g_preS hG) rfl rfl hl.1 rfl (lv_room (Nat.le_of_ble_eq_true rfl)) dX0_revise_90 ⟨by show _ ≤ 680; omega, by show _ ≤ 13300; omega⟩) hG (fun F_49 V_50 ws_ H locs hp hG => ?_)
            obtain ⟨rfl, rfl, rfl⟩ := hp
            have hG : gW X G1 (va_up V 0 (some (x, oB 0 [.ref sa, .ref rf, .ref tr, .ref kl, .ref wa, va_rf im, .int (zI (-1))]))) (Z) s H locs := hG
            refine lv_aload_n hx hb dX0_revise_93 rfl (lv_at hl 4 rfl) ?_
            refine g_get (ci := 0) hx hb hts in_X0 hown hG (hG.vo hx0) rfl 4 (Nat.le_of_ble_eq_true rfl) (hts _ q388) (fun _ h9 => h9) rfl dX0_revise_94 ?_
            refine lv_aloadN hx hb dX0_revise_97 (lv_at hl 2 rfl) ?_
            refine lv_aload hx hb dX0_revise_99 (lv_at hl 0 rfl) ?_
            have hWf : xWd X G1 (va_up V 0 (some (x, oB 0 [.ref sa, .ref rf, .ref tr, .ref kl, .ref wa, va_rf im, .int (zI (-1))]))) 4 (aWd a) wa rv rk st ra la ma := (hW.mono hle_G1).cg (fun r9 h8 h9 => va_up_ne _ _ (by omega))
            refine g_ci (va_runV (As := [.null, .ref tx]) (rest := []) ⟨hx, hb, hml, hown, hts⟩ (metX2_add (fo := none) (t := t9) hWf hK (by omega) (fun f9 h9 => by cases h9) htx9) (cwV 2 hts (lw_V q1710 q1711 q1712 q100 q1713) rfl rfl rfl (by decide +kernel) ⟨Nat.le_of_ble_eq_true rfl, Nat.le_of_ble_eq_true rfl⟩) (g_preV hG (g_recv hG (hG.vo hw0) (ci := 2) rfl)) rfl rfl hl.1 rfl (lv_room (Nat.le_of_ble_eq_true rfl)) dX0_revise_101 ⟨by show _ ≤ 680; omega, by show _ ≤ 13300; omega⟩) hG (fun r_51 G2 V_52 ws_ H locs hp hG => ?_)
            obtain ⟨hle_G2, rfl, ra9, la9, hW9, hB9, rfl⟩ := hp
            have hG : gW X G2 V_52 (Z) s H locs := hG
            refine vx_ret ?_
            exact g_iret hx hb hr hlocks hG (by have e9 : opRevise a (v1 : Int) (-1) = (((wN (aWd a) : Nat) : Int), aSetW (aSetF a (-1)) (wAdd (aWd a) none t9)) := (by unfold opRevise; rw [if_neg (by omega), show aSv a ((v1 : Nat) : Int).toNat = some (.inr (so1, n9, f9)) from hsvv]; show (match rdR (rwI f9) n9 with | .inr k => aNoR (aSetF a k) 6 | .inl t => if wN (aWd a) = 16 then aNoR (aSetF a (-1)) 7 else (wN (aWd a), aSetW (aSetF a (-1)) (wAdd (aWd a) (iO _) t))) = _; rw [hrr9]; rw [show iO (-1) = none from rfl]; exact if_neg (by omega)); rw [e9]; exact ⟨(hle_G1.tr hle_G2), rfl, (((hSf.mono (hle_G1.tr hle_G2)).setW hAf (fun r9 h8 h9 => hB9 r9 (by omega)) hW9 (fun _ _ => rfl))).ex, rfl⟩) ⟨by show _ ≤ 680; omega, by show _ ≤ 13300; omega⟩ dX0_revise_104
    · refine g_cne (tgt := 15) hx hb dX0_revise_8 (by decide) (by omega) (fun h4 => ?_) (fun h4 => ?_)
      · refine lv_aload_n hx hb dX0_revise_15 rfl (lv_at hl 1 rfl) ?_
        refine lv_iload_n hx hb dX0_revise_16 rfl (lv_at hl 3 rfl) ?_
        by_cases hcy : 0 ≤ y ∧ y < wN (aWd a)
        · obtain ⟨y1, rfl⟩ : ∃ z : Nat, y = (z : Int) := ⟨y.toNat, by omega⟩
          refine g_cr (va_runV (As := [.int (zI (y1 : Int))]) (rest := []) ⟨hx, hb, hml, hown, hts⟩ (metX0_revision_t (r := y1) hS hA (by omega)) (cwV 1 hts (lw_V q737 q739 qs4 q87 q740) rfl rfl rfl (by decide +kernel) ⟨Nat.le_of_ble_eq_true rfl, Nat.le_of_ble_eq_true rfl⟩) (g_preV hG (g_recv hG (hG.vo hx0) (ci := 0) rfl)) rfl rfl hl.1 rfl (lv_room (Nat.le_of_ble_eq_true rfl)) dX0_revise_17 ⟨by show _ ≤ 680; omega, by show _ ≤ 13300; omega⟩) hG (fun r_53 F_54 V_55 ws_ H locs hp hG => ?_)
          obtain ⟨rfl, rfl, rfl, rfl⟩ := hp
          have hG : gW X F V (Z) s H locs := hG
          have hlny1 : aLn a ((y1 : Nat) : Int) = ((wTx (aWd a) y1).length : Nat) := rfl
          have h24y1 := (hK.tx (r := y1) (by omega)).1
          have hx7v := hx7 v1 (by omega)
          have hok7 := hA.2.1 v1
          have hMk7 := hW.2.2.2.2.2
          rcases hsvv : aSv a v1 with _ | m1 | ⟨so1, n9, f9⟩
          · rw [hsvv] at hx7v
            have hsv : V (20 + v1) = some (sh v1, oB 3 [.null]) := hx7v
            refine lv_astore (lv' := [(4, .ref (ra y1)), (3, .ref (sh v1)), (0, .ref x), (1, .int (zI (v1 : Int))), (2, .int (zI (y1 : Int)))]) hx hb dX0_revise_20 hl (by decide) rfl (fun ls hl => ?_)
            refine lv_aload_n hx hb dX0_revise_22 rfl (lv_at hl 1 rfl) ?_
            refine g_xr (vx_runVX (As := []) (rest := []) ⟨hx, hb, hml, hown, hts⟩ (metX3_row_n (rj := 20 + v1) hsv) (vx_cwVW 0 hts (lw_VW q597 q598 q599 q101 q600) rfl rfl rfl (by decide +kernel) ⟨Nat.le_of_ble_eq_true rfl, Nat.le_of_ble_eq_true rfl⟩) (g_preV hG (g_recv hG (hG.vo hsv) (ci := 3) rfl)) rfl rfl hl.1 rfl (lv_room (Nat.le_of_ble_eq_true rfl)) dX0_revise_23 ⟨by show _ ≤ 680; omega, by show _ ≤ 13300; omega⟩) hG (fun E9 ce9 q9 Fx_59 Vx_60 ws_ H locs hpx hG hce => ?_) (fun r_56 F_57 V_58 ws_ H locs hp hG => ?_)
            · obtain ⟨rfl, hle_Fx_59, hq9, rfl, rfl⟩ := hpx
              have hG : gW X Fx_59 V (Z) s H locs := hG
              refine g_catch (name := "LineRemarks$Refused") hown htab [⟨33, 47, 50, 224⟩] ⟨0, 104, 105, 21⟩ [] rfl (List.forall_mem_cons.mpr ⟨Or.inl (by decide), (fun z9 hz9 => absurd hz9 List.not_mem_nil)⟩) (by decide) (by decide) (hts _ q410) (hG.1.2.1.1 _ qn498) hce ?_
              refine lv_astore_n (lv' := [(3, .ref q9), (4, .ref (ra y1)), (0, .ref x), (1, .int (zI (v1 : Int))), (2, .int (zI (y1 : Int)))]) hx hb dX0_revise_105 rfl hl (by decide) rfl (fun ls hl => ?_)
              refine lv_aload_n hx hb dX0_revise_106 rfl (lv_at hl 2 rfl) ?_
              refine lv_aload_n hx hb dX0_revise_107 rfl (lv_at hl 0 rfl) ?_
              refine g_ci (va_runV (As := [.ref q9]) (rest := []) ⟨hx, hb, hml, hown, hts⟩ (metX0_refused (k := 3) (hS.mono hle_Fx_59) hA hq9 (by decide)) (cwV 1 hts (lw_V q589 q591 qs2 q87 q592) rfl rfl rfl (by decide +kernel) ⟨Nat.le_of_ble_eq_true rfl, Nat.le_of_ble_eq_true rfl⟩) (g_preV hG (g_recv hG (hG.vo hx0) (ci := 0) rfl)) rfl rfl hl.1 rfl (lv_room (Nat.le_of_ble_eq_true rfl)) dX0_revise_108 ⟨by show _ ≤ 680; omega, by show _ ≤ 13300; omega⟩) hG (fun r_61 F_62 V_63 ws_ H locs hp hG => ?_)
              obtain ⟨rfl, rfl, hS9, rfl⟩ := hp
              have hG : gW X Fx_59 V_63 (Z) s H locs := hG
              refine vx_ret ?_
              exact g_iret hx hb hr hlocks hG (by have e9 : opRevise a (v1 : Int) (y1 : Int) = aNoR a 3 := (by unfold opRevise; rw [if_neg (by omega), show aSv a ((v1 : Nat) : Int).toNat = none from hsvv]; first | done | rfl); rw [e9]; exact ⟨hle_Fx_59, rfl, hS9.ex, rfl⟩) ⟨by show _ ≤ 680; omega, by show _ ≤ 13300; omega⟩ dX0_revise_111
            exact hp.elim
          · rw [hsvv] at hx7v hok7
            have hm1 : m1 < wM (aWd a) := hok7
            have hsv : V (20 + v1) = some (sh v1, oB 3 [.ref (ma m1)]) := hx7v
            have hrm1 := hMk7 m1 hm1
            have hkd1 := (hK.rk hm1).1
            refine lv_astore (lv' := [(4, .ref (ra y1)), (3, .ref (sh v1)), (0, .ref x), (1, .int (zI (v1 : Int))), (2, .int (zI (y1 : Int)))]) hx hb dX0_revise_20 hl (by decide) rfl (fun ls hl => ?_)
            refine lv_aload_n hx hb dX0_revise_22 rfl (lv_at hl 1 rfl) ?_
            refine g_xr (vx_runVX (As := []) (rest := []) ⟨hx, hb, hml, hown, hts⟩ (metX3_row_f (rj := 20 + v1) hsv (rm_ncR hkd1 hrm1) hst) (vx_cwVW 0 hts (lw_VW q597 q598 q599 q101 q600) rfl rfl rfl (by decide +kernel) ⟨Nat.le_of_ble_eq_true rfl, Nat.le_of_ble_eq_true rfl⟩) (g_preV hG (g_recv hG (hG.vo hsv) (ci := 3) rfl)) rfl rfl hl.1 rfl (lv_room (Nat.le_of_ble_eq_true rfl)) dX0_revise_23 ⟨by show _ ≤ 680; omega, by show _ ≤ 13300; omega⟩) hG (fun E9 ce9 q9 Fx_67 Vx_68 ws_ H locs hpx hG hce => ?_) (fun r_64 F_65 V_66 ws_ H locs hp hG => ?_)
            · obtain ⟨rfl, hle_Fx_67, hq9, rfl, rfl⟩ := hpx
              have hG : gW X Fx_67 V (Z) s H locs := hG
              refine g_catch (name := "LineRemarks$Refused") hown htab [⟨33, 47, 50, 224⟩] ⟨0, 104, 105, 21⟩ [] rfl (List.forall_mem_cons.mpr ⟨Or.inl (by decide), (fun z9 hz9 => absurd hz9 List.not_mem_nil)⟩) (by decide) (by decide) (hts _ q410) (hG.1.2.1.1 _ qn498) hce ?_
              refine lv_astore_n (lv' := [(3, .ref q9), (4, .ref (ra y1)), (0, .ref x), (1, .int (zI (v1 : Int))), (2, .int (zI (y1 : Int)))]) hx hb dX0_revise_105 rfl hl (by decide) rfl (fun ls hl => ?_)
              refine lv_aload_n hx hb dX0_revise_106 rfl (lv_at hl 2 rfl) ?_
              refine lv_aload_n hx hb dX0_revise_107 rfl (lv_at hl 0 rfl) ?_
              refine g_ci (va_runV (As := [.ref q9]) (rest := []) ⟨hx, hb, hml, hown, hts⟩ (metX0_refused (k := 2) (hS.mono hle_Fx_67) hA hq9 (by decide)) (cwV 1 hts (lw_V q589 q591 qs2 q87 q592) rfl rfl rfl (by decide +kernel) ⟨Nat.le_of_ble_eq_true rfl, Nat.le_of_ble_eq_true rfl⟩) (g_preV hG (g_recv hG (hG.vo hx0) (ci := 0) rfl)) rfl rfl hl.1 rfl (lv_room (Nat.le_of_ble_eq_true rfl)) dX0_revise_108 ⟨by show _ ≤ 680; omega, by show _ ≤ 13300; omega⟩) hG (fun r_69 F_70 V_71 ws_ H locs hp hG => ?_)
              obtain ⟨rfl, rfl, hS9, rfl⟩ := hp
              have hG : gW X Fx_67 V_71 (Z) s H locs := hG
              refine vx_ret ?_
              exact g_iret hx hb hr hlocks hG (by have e9 : opRevise a (v1 : Int) (y1 : Int) = aNoR a 2 := (by unfold opRevise; rw [if_neg (by omega), show aSv a ((v1 : Nat) : Int).toNat = some (.inl m1) from hsvv]; first | done | rfl); rw [e9]; exact ⟨hle_Fx_67, rfl, hS9.ex, rfl⟩) ⟨by show _ ≤ 680; omega, by show _ ≤ 13300; omega⟩ dX0_revise_111
            exact hp.elim
          · rw [hsvv] at hx7v hok7
            obtain ⟨ro, ar, hsv, hro, hVr, hfx⟩ := hx7v
            obtain ⟨hso, hn160⟩ : so1 ≤ 3 ∧ n9 ≤ 160 := hok7
            refine lv_astore (lv' := [(4, .ref (ra y1)), (3, .ref (sh v1)), (0, .ref x), (1, .int (zI (v1 : Int))), (2, .int (zI (y1 : Int)))]) hx hb dX0_revise_20 hl (by decide) rfl (fun ls hl => ?_)
            refine lv_aload_n hx hb dX0_revise_22 rfl (lv_at hl 1 rfl) ?_
            refine g_xr (vx_runVX (As := []) (rest := []) ⟨hx, hb, hml, hown, hts⟩ (metX3_row_t (rj := 20 + v1) hsv hso hro) (vx_cwVW 0 hts (lw_VW q597 q598 q599 q101 q600) rfl rfl rfl (by decide +kernel) ⟨Nat.le_of_ble_eq_true rfl, Nat.le_of_ble_eq_true rfl⟩) (g_preV hG (g_recv hG (hG.vo hsv) (ci := 3) rfl)) rfl rfl hl.1 rfl (lv_room (Nat.le_of_ble_eq_true rfl)) dX0_revise_23 ⟨by show _ ≤ 680; omega, by show _ ≤ 13300; omega⟩) hG (fun E9 ce9 q9 Fx_75 Vx_76 ws_ H locs hpx hG hce => ?_) (fun r_72 F_73 V_74 ws_ H locs hp hG => ?_)
            · exact hpx.elim
            obtain ⟨rfl, rfl, rfl, rfl⟩ := hp
            have hG : gW X F V (Z) s H locs := hG
            refine lv_astore (lv' := [(5, .ref ro), (4, .ref (ra y1)), (3, .ref (sh v1)), (0, .ref x), (1, .int (zI (v1 : Int))), (2, .int (zI (y1 : Int)))]) hx hb dX0_revise_26 hl (by decide) rfl (fun ls hl => ?_)
            refine lv_aload_n hx hb dX0_revise_28 rfl (lv_at hl 3 rfl) ?_
            refine lv_iconst (v := zI (-1)) hx hb dX0_revise_29 (by decide +kernel) ?_
            refine g_putV (ci := 0) hx hb hts in_X0 tyX0 tyX0_ok nmX0 hown hG hx0 rfl 6 (Nat.le_of_ble_eq_true rfl) (hts _ q390) (fun _ h9 => h9) rfl (tyX0_ok 6 (Nat.le_of_ble_eq_true rfl)) rfl rfl (Nat.le_of_ble_eq_true rfl) dX0_revise_30 (fun H locs (hG : gW X F (va_up V 0 (some (x, oB 0 [.ref sa, .ref rf, .ref tr, .ref kl, .ref wa, va_rf im, .int (zI (-1))]))) (Z) s H locs) => ?_)
            have hx0 : (va_up V 0 (some (x, oB 0 [.ref sa, .ref rf, .ref tr, .ref kl, .ref wa, va_rf im, .int (zI (-1))]))) 0 = some (x, oB 0 [.ref sa, .ref rf, .ref tr, .ref kl, .ref wa, va_rf im, .int (zI (-1))]) := vus
            have hx2 : (va_up V 0 (some (x, oB 0 [.ref sa, .ref rf, .ref tr, .ref kl, .ref wa, va_rf im, .int (zI (-1))]))) 1 = some (rf, aI (gT X 0) 8 gr9) := (vun (by decide)).trans hx2
            have hw0 : (va_up V 0 (some (x, oB 0 [.ref sa, .ref rf, .ref tr, .ref kl, .ref wa, va_rf im, .int (zI (-1))]))) 4 = some (wa, oB 2 [.int (zI (wN (aWd a) : Int)), .int (zI (wM (aWd a) : Int)), .int (zI (wRun (aWd a) : Int)), .int (zI (wNeed (aWd a) : Int)), .int (zI (wMar (aWd a) : Int)), .int (wSeed (aWd a)), .ref rv, .ref rk, .ref st]) := (vun (by decide)).trans hw0
            have hw1 : (va_up V 0 (some (x, oB 0 [.ref sa, .ref rf, .ref tr, .ref kl, .ref wa, va_rf im, .int (zI (-1))]))) 5 = some (rv, aR (gT X 7) 16 fR) := (vun (by decide)).trans hw1
            have hw2 : (va_up V 0 (some (x, oB 0 [.ref sa, .ref rf, .ref tr, .ref kl, .ref wa, va_rf im, .int (zI (-1))]))) 6 = some (rk, aR (gT X 8) 16 fM) := (vun (by decide)).trans hw2
            have hw3 : (va_up V 0 (some (x, oB 0 [.ref sa, .ref rf, .ref tr, .ref kl, .ref wa, va_rf im, .int (zI (-1))]))) 7 = some (st, aI (gT X 5) 16 fS) := (vun (by decide)).trans hw3
            have hsv : (va_up V 0 (some (x, oB 0 [.ref sa, .ref rf, .ref tr, .ref kl, .ref wa, va_rf im, .int (zI (-1))]))) (20 + v1) = some ((sh v1), oB 3 [.ref ro]) := (vun (by omega)).trans hsv
            refine g_new (ci := 9) hx hb hts in_X11 tyX11 tyX11_ok hown (hts _ q745) (hts _ q746) (hts _ q118) hG rfl (fs := [.null, .null, .null, .int (zI 0)]) rfl ⟨by show _ ≤ 680; omega, by show _ ≤ 13300; omega⟩ dX0_revise_33 (fun rd H (hG : gW X F (va_up V 0 (some (x, oB 0 [.ref sa, .ref rf, .ref tr, .ref kl, .ref wa, va_rf im, .int (zI (-1))]))) ((rd, oB 9 [.null, .null, .null, .int (zI 0)]) :: Z) s H _) => ?_)
            refine lv_dup hx hb dX0_revise_36 rfl ?_
            refine lv_aload hx hb dX0_revise_37 (lv_at hl 0 rfl) ?_
            refine g_cv (va_runI (As := [.ref ro]) (rest := [.ref rd]) ⟨hx, hb, hml, hown, hts⟩ (metX11_init) (cwI 1 hts (lw_meth q749) rfl rfl rfl (hts _ q118) (hts _ q747) (hts _ q748) rfl (by decide +kernel) ⟨Nat.le_of_ble_eq_true rfl, Nat.le_of_ble_eq_true rfl⟩) (g_preS hG) rfl rfl hl.1 rfl (lv_room (Nat.le_of_ble_eq_true rfl)) dX0_revise_39 ⟨by show _ ≤ 680; omega, by show _ ≤ 13300; omega⟩) hG (fun F_78 V_79 ws_ H locs hp hG => ?_)
            obtain ⟨rfl, rfl, le, al, rfl⟩ := hp
            have hG : gW X F (va_up V 0 (some (x, oB 0 [.ref sa, .ref rf, .ref tr, .ref kl, .ref wa, va_rf im, .int (zI (-1))]))) ((rd, oB 9 [.ref ro, .ref le, .ref al, .int (zI 0)]) :: (le, aI (gT X 2) 8 (fun _ => 0)) :: (al, oB 25 [.int (zI 0), .ref (ga X 300), .int (zI 0)]) :: Z) s H locs := hG
            have hSf := hS.setF (U := (va_up V 0 (some (x, oB 0 [.ref sa, .ref rf, .ref tr, .ref kl, .ref wa, va_rf im, .int (zI (-1))])))) (k := -1) (fun r9 h9 => va_up_ne _ _ h9) hx0
            have hAf := aOK_setF hA (show (-1 : Int) ≤ -1 ∧ (-1 : Int) ≤ 160 by decide)
            have hVr : (va_up V 0 (some (x, oB 0 [.ref sa, .ref rf, .ref tr, .ref kl, .ref wa, va_rf im, .int (zI (-1))]))) (40 + v1) = some (ar, rwE X so1 n9 f9) := (va_up_ne _ _ (by omega)).trans hVr
            refine g_xr (vx_runV (As := []) (rest := []) ⟨hx, hb, hml, hown, hts⟩ (metX11_whole hso hro hVr hfx hn160) (cwV 0 hts (lw_V q795 q796 q797 q118 q798) rfl rfl rfl (by decide +kernel) ⟨Nat.le_of_ble_eq_true rfl, Nat.le_of_ble_eq_true rfl⟩) (g_preV hG (g_recv hG (hG.at 0 rfl) (ci := 9) rfl)) rfl rfl hl.1 rfl (lv_room (Nat.le_of_ble_eq_true rfl)) dX0_revise_42 ⟨by show _ ≤ 680; omega, by show _ ≤ 13300; omega⟩) hG (fun E9 ce9 q9 Fx_81 Vx_82 ws_ H locs hpx hG hce => ?_) (fun tx G1 V_80 ws_ H locs hp hG => ?_)
            · obtain ⟨rfl, hle_Fx_81, ⟨k9, hrr9, hq9⟩, rfl, rfl⟩ := hpx
              have hG : gW X Fx_81 (va_up V 0 (some (x, oB 0 [.ref sa, .ref rf, .ref tr, .ref kl, .ref wa, va_rf im, .int (zI (-1))]))) (Z) s H locs := hG
              have hk160 : k9 ≤ 160 := by have := rdR_le hrr9; omega
              refine g_catch (name := "LineRemarks$Faulty") hown htab [] ⟨33, 47, 50, 224⟩ [⟨0, 104, 105, 21⟩] rfl (fun z9 hz9 => absurd hz9 List.not_mem_nil) (by decide) (by decide) (hts _ q736) (hG.1.2.1.1 _ qn841) hce ?_
              refine lv_astore (lv' := [(7, .ref q9), (5, .ref ro), (4, .ref (ra y1)), (3, .ref (sh v1)), (0, .ref x), (1, .int (zI (v1 : Int))), (2, .int (zI (y1 : Int)))]) hx hb dX0_revise_50 hl (by decide) rfl (fun ls hl => ?_)
              refine lv_aload_n hx hb dX0_revise_52 rfl (lv_at hl 4 rfl) ?_
              refine lv_aload hx hb dX0_revise_53 (lv_at hl 0 rfl) ?_
              refine g_get (ci := 10) hx hb hts in_X12 hown hG (hG.fz (show Fx_81.1 q9 = some _ from hq9)) rfl 6 (Nat.le_of_ble_eq_true rfl) (hts _ q853) (fun _ h9 => h9) rfl dX0_revise_55 ?_
              refine g_putV (ci := 0) hx hb hts in_X0 tyX0 tyX0_ok nmX0 hown hG hx0 rfl 6 (Nat.le_of_ble_eq_true rfl) (hts _ q390) (fun _ h9 => h9) rfl (tyX0_ok 6 (Nat.le_of_ble_eq_true rfl)) rfl rfl (Nat.le_of_ble_eq_true rfl) dX0_revise_58 (fun H locs (hG : gW X Fx_81 (va_up (va_up V 0 (some (x, oB 0 [.ref sa, .ref rf, .ref tr, .ref kl, .ref wa, va_rf im, .int (zI (-1))]))) 0 (some (x, oB 0 [.ref sa, .ref rf, .ref tr, .ref kl, .ref wa, va_rf im, .int (zI (k9 : Int))]))) (Z) s H locs) => ?_)
              have hx0 : (va_up (va_up V 0 (some (x, oB 0 [.ref sa, .ref rf, .ref tr, .ref kl, .ref wa, va_rf im, .int (zI (-1))]))) 0 (some (x, oB 0 [.ref sa, .ref rf, .ref tr, .ref kl, .ref wa, va_rf im, .int (zI (k9 : Int))]))) 0 = some (x, oB 0 [.ref sa, .ref rf, .ref tr, .ref kl, .ref wa, va_rf im, .int (zI (k9 : Int))]) := vus
              have hx2 : (va_up (va_up V 0 (some (x, oB 0 [.ref sa, .ref rf, .ref tr, .ref kl, .ref wa, va_rf im, .int (zI (-1))]))) 0 (some (x, oB 0 [.ref sa, .ref rf, .ref tr, .ref kl, .ref wa, va_rf im, .int (zI (k9 : Int))]))) 1 = some (rf, aI (gT X 0) 8 gr9) := (vun (by decide)).trans hx2
              have hw0 : (va_up (va_up V 0 (some (x, oB 0 [.ref sa, .ref rf, .ref tr, .ref kl, .ref wa, va_rf im, .int (zI (-1))]))) 0 (some (x, oB 0 [.ref sa, .ref rf, .ref tr, .ref kl, .ref wa, va_rf im, .int (zI (k9 : Int))]))) 4 = some (wa, oB 2 [.int (zI (wN (aWd a) : Int)), .int (zI (wM (aWd a) : Int)), .int (zI (wRun (aWd a) : Int)), .int (zI (wNeed (aWd a) : Int)), .int (zI (wMar (aWd a) : Int)), .int (wSeed (aWd a)), .ref rv, .ref rk, .ref st]) := (vun (by decide)).trans hw0
              have hw1 : (va_up (va_up V 0 (some (x, oB 0 [.ref sa, .ref rf, .ref tr, .ref kl, .ref wa, va_rf im, .int (zI (-1))]))) 0 (some (x, oB 0 [.ref sa, .ref rf, .ref tr, .ref kl, .ref wa, va_rf im, .int (zI (k9 : Int))]))) 5 = some (rv, aR (gT X 7) 16 fR) := (vun (by decide)).trans hw1
              have hw2 : (va_up (va_up V 0 (some (x, oB 0 [.ref sa, .ref rf, .ref tr, .ref kl, .ref wa, va_rf im, .int (zI (-1))]))) 0 (some (x, oB 0 [.ref sa, .ref rf, .ref tr, .ref kl, .ref wa, va_rf im, .int (zI (k9 : Int))]))) 6 = some (rk, aR (gT X 8) 16 fM) := (vun (by decide)).trans hw2
              have hw3 : (va_up (va_up V 0 (some (x, oB 0 [.ref sa, .ref rf, .ref tr, .ref kl, .ref wa, va_rf im, .int (zI (-1))]))) 0 (some (x, oB 0 [.ref sa, .ref rf, .ref tr, .ref kl, .ref wa, va_rf im, .int (zI (k9 : Int))]))) 7 = some (st, aI (gT X 5) 16 fS) := (vun (by decide)).trans hw3
              have hsv : (va_up (va_up V 0 (some (x, oB 0 [.ref sa, .ref rf, .ref tr, .ref kl, .ref wa, va_rf im, .int (zI (-1))]))) 0 (some (x, oB 0 [.ref sa, .ref rf, .ref tr, .ref kl, .ref wa, va_rf im, .int (zI (k9 : Int))]))) (20 + v1) = some ((sh v1), oB 3 [.ref ro]) := (vun (by omega)).trans hsv
              have hSk := (hS.mono hle_Fx_81).setF (U := (va_up (va_up V 0 (some (x, oB 0 [.ref sa, .ref rf, .ref tr, .ref kl, .ref wa, va_rf im, .int (zI (-1))]))) 0 (some (x, oB 0 [.ref sa, .ref rf, .ref tr, .ref kl, .ref wa, va_rf im, .int (zI (k9 : Int))])))) (k := (k9 : Int)) (fun r9 h9 => (va_up_ne _ _ h9).trans (va_up_ne _ _ h9)) hx0
              have hAk := aOK_setF hA (show (-1 : Int) ≤ (k9 : Int) ∧ (k9 : Int) ≤ 160 by omega)
              obtain ⟨qa, hqa⟩ : ∃ z, z = q9 := ⟨_, rfl⟩
              rw [← hqa] at hl
              refine g_new (ci := 4) hx hb hts in_X5 tyX5 tyX5_ok hown (hts _ q410) (hts _ q497) (hts _ q109) hG rfl (fs := [.null, .null, .null, .null, .null, .int (zI 0), .int (zI 0)]) rfl ⟨by show _ ≤ 680; omega, by show _ ≤ 13300; omega⟩ dX0_revise_61 (fun q9 H (hG : gW X Fx_81 (va_up (va_up V 0 (some (x, oB 0 [.ref sa, .ref rf, .ref tr, .ref kl, .ref wa, va_rf im, .int (zI (-1))]))) 0 (some (x, oB 0 [.ref sa, .ref rf, .ref tr, .ref kl, .ref wa, va_rf im, .int (zI (k9 : Int))]))) ((q9, oB 4 [.null, .null, .null, .null, .null, .int (zI 0), .int (zI 0)]) :: Z) s H _) => ?_)
              refine lv_dup hx hb dX0_revise_64 rfl ?_
              refine lv_bipush (v := zI (-6)) hx hb dX0_revise_65 (by decide +kernel) ?_
              refine g_cv (va_runI (As := [.int (zI (-6))]) (rest := [.ref q9]) ⟨hx, hb, hml, hown, hts⟩ (metX5_init) (cwI 1 hts (lw_meth q507) rfl rfl rfl (hts _ q109) (hts _ q505) (hts _ q506) rfl (by decide +kernel) ⟨Nat.le_of_ble_eq_true rfl, Nat.le_of_ble_eq_true rfl⟩) (g_preS hG) rfl rfl hl.1 rfl (lv_room (Nat.le_of_ble_eq_true rfl)) dX0_revise_67 ⟨by show _ ≤ 680; omega, by show _ ≤ 13300; omega⟩) hG (fun F_84 V_85 ws_ H locs hp hG => ?_)
              obtain ⟨rfl, rfl, rfl⟩ := hp
              have hG : gW X Fx_81 (va_up (va_up V 0 (some (x, oB 0 [.ref sa, .ref rf, .ref tr, .ref kl, .ref wa, va_rf im, .int (zI (-1))]))) 0 (some (x, oB 0 [.ref sa, .ref rf, .ref tr, .ref kl, .ref wa, va_rf im, .int (zI (k9 : Int))]))) ((q9, oB 4 [.null, .null, .null, .null, .null, .int (zI 0), .int (zI (-6))]) :: Z) s H locs := hG
              obtain ⟨G8, hle_G8, hq9, hG⟩ := hG.freeze
              have hG : gW X G8 (va_up (va_up V 0 (some (x, oB 0 [.ref sa, .ref rf, .ref tr, .ref kl, .ref wa, va_rf im, .int (zI (-1))]))) 0 (some (x, oB 0 [.ref sa, .ref rf, .ref tr, .ref kl, .ref wa, va_rf im, .int (zI (k9 : Int))]))) (Z) s _ _ := hG
              refine vx_athrow hx hb dX0_revise_70 ?_
              have hq9 : isRef G8 q9 6 := hq9
              obtain ⟨ce9, hce⟩ := ex_cell hG hq9 (k := (RX5, TX5, 7)) rfl
              refine g_catch (name := "LineRemarks$Refused") hown htab [⟨33, 47, 50, 224⟩] ⟨0, 104, 105, 21⟩ [] rfl (List.forall_mem_cons.mpr ⟨Or.inl (by decide), (fun z9 hz9 => absurd hz9 List.not_mem_nil)⟩) (by decide) (by decide) (hts _ q410) (hG.1.2.1.1 _ qn498) hce ?_
              refine lv_astore_n (lv' := [(3, .ref q9), (7, .ref qa), (5, .ref ro), (4, .ref (ra y1)), (0, .ref x), (1, .int (zI (v1 : Int))), (2, .int (zI (y1 : Int)))]) hx hb dX0_revise_105 rfl hl (by decide) rfl (fun ls hl => ?_)
              refine lv_aload_n hx hb dX0_revise_106 rfl (lv_at hl 4 rfl) ?_
              refine lv_aload_n hx hb dX0_revise_107 rfl (lv_at hl 0 rfl) ?_
              refine g_ci (va_runV (As := [.ref q9]) (rest := []) ⟨hx, hb, hml, hown, hts⟩ (metX0_refused (k := 6) (hSk.mono hle_G8) hAk hq9 (by decide)) (cwV 1 hts (lw_V q589 q591 qs2 q87 q592) rfl rfl rfl (by decide +kernel) ⟨Nat.le_of_ble_eq_true rfl, Nat.le_of_ble_eq_true rfl⟩) (g_preV hG (g_recv hG (hG.vo hx0) (ci := 0) rfl)) rfl rfl hl.1 rfl (lv_room (Nat.le_of_ble_eq_true rfl)) dX0_revise_108 ⟨by show _ ≤ 680; omega, by show _ ≤ 13300; omega⟩) hG (fun r_86 F_87 V_88 ws_ H locs hp hG => ?_)
              obtain ⟨rfl, rfl, hS9, rfl⟩ := hp
              have hG : gW X G8 V_88 (Z) s H locs := hG
              refine vx_ret ?_
              exact g_iret hx hb hr hlocks hG (by have e9 : opRevise a (v1 : Int) (y1 : Int) = aNoR (aSetF a (k9 : Int)) 6 := (by unfold opRevise; rw [if_neg (by omega), show aSv a ((v1 : Nat) : Int).toNat = some (.inr (so1, n9, f9)) from hsvv]; show (match rdR (rwI f9) n9 with | .inr k => aNoR (aSetF a k) 6 | .inl t => if wN (aWd a) = 16 then aNoR (aSetF a (-1)) 7 else (wN (aWd a), aSetW (aSetF a (-1)) (wAdd (aWd a) (iO _) t))) = _; rw [hrr9]); rw [e9]; exact ⟨(hle_Fx_81.tr hle_G8), rfl, hS9.ex, rfl⟩) ⟨by show _ ≤ 680; omega, by show _ ≤ 13300; omega⟩ dX0_revise_111
            obtain ⟨hle_G1, rfl, ⟨t9, hrr9, htx9⟩, rfl⟩ := hp
            have hG : gW X G1 (va_up V 0 (some (x, oB 0 [.ref sa, .ref rf, .ref tr, .ref kl, .ref wa, va_rf im, .int (zI (-1))]))) (Z) s H locs := hG
            refine lv_astore (lv' := [(6, .ref tx), (5, .ref ro), (4, .ref (ra y1)), (3, .ref (sh v1)), (0, .ref x), (1, .int (zI (v1 : Int))), (2, .int (zI (y1 : Int)))]) hx hb dX0_revise_45 hl (by decide) rfl (fun ls hl => ?_)
            refine lv_goto (tgt := 71) hx hb dX0_revise_47 (by decide) ?_
            refine lv_aload_n hx hb dX0_revise_71 rfl (lv_at hl 4 rfl) ?_
            refine g_get (ci := 0) hx hb hts in_X0 hown hG (hG.vo hx0) rfl 4 (Nat.le_of_ble_eq_true rfl) (hts _ q388) (fun _ h9 => h9) rfl dX0_revise_72 ?_
            refine g_get (ci := 2) hx hb hts in_X2 hown hG (hG.vo hw0) rfl 0 (Nat.le_of_ble_eq_true rfl) (hts _ q334) (fun _ h9 => h9) rfl dX0_revise_75 ?_
            refine lv_bipush (v := zI 16) hx hb dX0_revise_78 (by decide +kernel) ?_
            refine g_cge (tgt := 87) hx hb dX0_revise_80 (by decide) (by omega) (fun h7 => ?_) (fun h7 => ?_)
            · refine lv_iconst (v := zI 0) hx hb dX0_revise_87 (by decide +kernel) ?_
              refine lv_bipush (v := zI (-7)) hx hb dX0_revise_88 (by decide +kernel) ?_
              refine g_xv (vx_runS (As := [.int (zI 0), .int (zI (-7))]) (rest := []) ⟨hx, hb, hml, hown, hts⟩ (metX0_need_f (k := 7)) (va_cwS 2 hts (lw_S q520 q521 q87 q522) rfl rfl rfl (by decide +kernel) ⟨Nat.le_of_ble_eq_true rfl, Nat.le_of_ble_eq_true rfl⟩) (g_preS hG) rfl rfl hl.1 rfl (lv_room (Nat.le_of_ble_eq_true rfl)) dX0_revise_90 ⟨by show _ ≤ 680; omega, by show _ ≤ 13300; omega⟩) hG (fun E9 ce9 q9 Fx_92 Vx_93 ws_ H locs hpx hG hce => ?_) (fun F_90 V_91 ws_ H locs hp hG => ?_)
              · obtain ⟨rfl, hle_Fx_92, hq9, rfl, rfl⟩ := hpx
                have hG : gW X Fx_92 (va_up V 0 (some (x, oB 0 [.ref sa, .ref rf, .ref tr, .ref kl, .ref wa, va_rf im, .int (zI (-1))]))) (Z) s H locs := hG
                refine g_catch (name := "LineRemarks$Refused") hown htab [⟨33, 47, 50, 224⟩] ⟨0, 104, 105, 21⟩ [] rfl (List.forall_mem_cons.mpr ⟨Or.inl (by decide), (fun z9 hz9 => absurd hz9 List.not_mem_nil)⟩) (by decide) (by decide) (hts _ q410) (hG.1.2.1.1 _ qn498) hce ?_
                refine lv_astore_n (lv' := [(3, .ref q9), (6, .ref tx), (5, .ref ro), (4, .ref (ra y1)), (0, .ref x), (1, .int (zI (v1 : Int))), (2, .int (zI (y1 : Int)))]) hx hb dX0_revise_105 rfl hl (by decide) rfl (fun ls hl => ?_)
                refine lv_aload_n hx hb dX0_revise_106 rfl (lv_at hl 4 rfl) ?_
                refine lv_aload_n hx hb dX0_revise_107 rfl (lv_at hl 0 rfl) ?_
                refine g_ci (va_runV (As := [.ref q9]) (rest := []) ⟨hx, hb, hml, hown, hts⟩ (metX0_refused (k := 7) (hSf.mono (hle_G1.tr hle_Fx_92)) hAf hq9 (by decide)) (cwV 1 hts (lw_V q589 q591 qs2 q87 q592) rfl rfl rfl (by decide +kernel) ⟨Nat.le_of_ble_eq_true rfl, Nat.le_of_ble_eq_true rfl⟩) (g_preV hG (g_recv hG (hG.vo hx0) (ci := 0) rfl)) rfl rfl hl.1 rfl (lv_room (Nat.le_of_ble_eq_true rfl)) dX0_revise_108 ⟨by show _ ≤ 680; omega, by show _ ≤ 13300; omega⟩) hG (fun r_94 F_95 V_96 ws_ H locs hp hG => ?_)
                obtain ⟨rfl, rfl, hS9, rfl⟩ := hp
                have hG : gW X Fx_92 V_96 (Z) s H locs := hG
                refine vx_ret ?_
                exact g_iret hx hb hr hlocks hG (by have e9 : opRevise a (v1 : Int) (y1 : Int) = aNoR (aSetF a (-1)) 7 := (by unfold opRevise; rw [if_neg (by omega), show aSv a ((v1 : Nat) : Int).toNat = some (.inr (so1, n9, f9)) from hsvv]; show (match rdR (rwI f9) n9 with | .inr k => aNoR (aSetF a k) 6 | .inl t => if wN (aWd a) = 16 then aNoR (aSetF a (-1)) 7 else (wN (aWd a), aSetW (aSetF a (-1)) (wAdd (aWd a) (iO _) t))) = _; rw [hrr9]; exact if_pos (by omega)); rw [e9]; exact ⟨(hle_G1.tr hle_Fx_92), rfl, hS9.ex, rfl⟩) ⟨by show _ ≤ 680; omega, by show _ ≤ 13300; omega⟩ dX0_revise_111
              exact hp.elim
            · refine lv_iconst (v := zI 1) hx hb dX0_revise_83 (by decide +kernel) ?_
              refine lv_goto (tgt := 88) hx hb dX0_revise_84 (by decide) ?_
              refine lv_bipush (v := zI (-7)) hx hb dX0_revise_88 (by decide +kernel) ?_
              refine g_cv (va_runS (As := [.int (zI 1), .int (zI (-7))]) (rest := []) ⟨hx, hb, hml, hown, hts⟩ (metX0_need_t (b := 1) (by decide)) (va_cwS 2 hts (lw_S q520 q521 q87 q522) rfl rfl rfl (by decide +kernel) ⟨Nat.le_of_ble_eq_true rfl, Nat.le_of_ble_eq_true rfl⟩) (g_preS hG) rfl rfl hl.1 rfl (lv_room (Nat.le_of_ble_eq_true rfl)) dX0_revise_90 ⟨by show _ ≤ 680; omega, by show _ ≤ 13300; omega⟩) hG (fun F_98 V_99 ws_ H locs hp hG => ?_)
              obtain ⟨rfl, rfl, rfl⟩ := hp
              have hG : gW X G1 (va_up V 0 (some (x, oB 0 [.ref sa, .ref rf, .ref tr, .ref kl, .ref wa, va_rf im, .int (zI (-1))]))) (Z) s H locs := hG
              refine lv_aload_n hx hb dX0_revise_93 rfl (lv_at hl 4 rfl) ?_
              refine g_get (ci := 0) hx hb hts in_X0 hown hG (hG.vo hx0) rfl 4 (Nat.le_of_ble_eq_true rfl) (hts _ q388) (fun _ h9 => h9) rfl dX0_revise_94 ?_
              refine lv_aload hx hb dX0_revise_97 (lv_at hl 2 rfl) ?_
              refine lv_aload hx hb dX0_revise_99 (lv_at hl 0 rfl) ?_
              have hWf : xWd X G1 (va_up V 0 (some (x, oB 0 [.ref sa, .ref rf, .ref tr, .ref kl, .ref wa, va_rf im, .int (zI (-1))]))) 4 (aWd a) wa rv rk st ra la ma := (hW.mono hle_G1).cg (fun r9 h8 h9 => va_up_ne _ _ (by omega))
              refine g_ci (va_runV (As := [.ref (ra y1), .ref tx]) (rest := []) ⟨hx, hb, hml, hown, hts⟩ (metX2_add (fo := (some y1)) (t := t9) hWf hK (by omega) (fun f9 h9 => by cases h9; omega) htx9) (cwV 2 hts (lw_V q1710 q1711 q1712 q100 q1713) rfl rfl rfl (by decide +kernel) ⟨Nat.le_of_ble_eq_true rfl, Nat.le_of_ble_eq_true rfl⟩) (g_preV hG (g_recv hG (hG.vo hw0) (ci := 2) rfl)) rfl rfl hl.1 rfl (lv_room (Nat.le_of_ble_eq_true rfl)) dX0_revise_101 ⟨by show _ ≤ 680; omega, by show _ ≤ 13300; omega⟩) hG (fun r_100 G2 V_101 ws_ H locs hp hG => ?_)
              obtain ⟨hle_G2, rfl, ra9, la9, hW9, hB9, rfl⟩ := hp
              have hG : gW X G2 V_101 (Z) s H locs := hG
              refine vx_ret ?_
              exact g_iret hx hb hr hlocks hG (by have e9 : opRevise a (v1 : Int) (y1 : Int) = (((wN (aWd a) : Nat) : Int), aSetW (aSetF a (-1)) (wAdd (aWd a) (some y1) t9)) := (by unfold opRevise; rw [if_neg (by omega), show aSv a ((v1 : Nat) : Int).toNat = some (.inr (so1, n9, f9)) from hsvv]; show (match rdR (rwI f9) n9 with | .inr k => aNoR (aSetF a k) 6 | .inl t => if wN (aWd a) = 16 then aNoR (aSetF a (-1)) 7 else (wN (aWd a), aSetW (aSetF a (-1)) (wAdd (aWd a) (iO _) t))) = _; rw [hrr9]; rw [iO_n y1]; exact if_neg (by omega)); rw [e9]; exact ⟨(hle_G1.tr hle_G2), rfl, (((hSf.mono (hle_G1.tr hle_G2)).setW hAf (fun r9 h8 h9 => hB9 r9 (by omega)) hW9 (fun _ _ => rfl))).ex, rfl⟩) ⟨by show _ ≤ 680; omega, by show _ ≤ 13300; omega⟩ dX0_revise_104
        · refine g_xr (vx_runV (As := [.int (zI y)]) (rest := []) ⟨hx, hb, hml, hown, hts⟩ (metX0_revision_f hS hA (by omega)) (cwV 1 hts (lw_V q737 q739 qs4 q87 q740) rfl rfl rfl (by decide +kernel) ⟨Nat.le_of_ble_eq_true rfl, Nat.le_of_ble_eq_true rfl⟩) (g_preV hG (g_recv hG (hG.vo hx0) (ci := 0) rfl)) rfl rfl hl.1 rfl (lv_room (Nat.le_of_ble_eq_true rfl)) dX0_revise_17 ⟨by show _ ≤ 680; omega, by show _ ≤ 13300; omega⟩) hG (fun E9 ce9 q9 Fx_105 Vx_106 ws_ H locs hpx hG hce => ?_) (fun r_102 F_103 V_104 ws_ H locs hp hG => ?_)
          · obtain ⟨rfl, hle_Fx_105, hq9, rfl, rfl⟩ := hpx
            have hG : gW X Fx_105 V (Z) s H locs := hG
            refine g_catch (name := "LineRemarks$Refused") hown htab [⟨33, 47, 50, 224⟩] ⟨0, 104, 105, 21⟩ [] rfl (List.forall_mem_cons.mpr ⟨Or.inl (by decide), (fun z9 hz9 => absurd hz9 List.not_mem_nil)⟩) (by decide) (by decide) (hts _ q410) (hG.1.2.1.1 _ qn498) hce ?_
            refine lv_astore_n (lv' := [(3, .ref q9), (0, .ref x), (1, .int (zI (v1 : Int))), (2, .int (zI y))]) hx hb dX0_revise_105 rfl hl (by decide) rfl (fun ls hl => ?_)
            refine lv_aload_n hx hb dX0_revise_106 rfl (lv_at hl 1 rfl) ?_
            refine lv_aload_n hx hb dX0_revise_107 rfl (lv_at hl 0 rfl) ?_
            refine g_ci (va_runV (As := [.ref q9]) (rest := []) ⟨hx, hb, hml, hown, hts⟩ (metX0_refused (k := 1) (hS.mono hle_Fx_105) hA hq9 (by decide)) (cwV 1 hts (lw_V q589 q591 qs2 q87 q592) rfl rfl rfl (by decide +kernel) ⟨Nat.le_of_ble_eq_true rfl, Nat.le_of_ble_eq_true rfl⟩) (g_preV hG (g_recv hG (hG.vo hx0) (ci := 0) rfl)) rfl rfl hl.1 rfl (lv_room (Nat.le_of_ble_eq_true rfl)) dX0_revise_108 ⟨by show _ ≤ 680; omega, by show _ ≤ 13300; omega⟩) hG (fun r_107 F_108 V_109 ws_ H locs hp hG => ?_)
            obtain ⟨rfl, rfl, hS9, rfl⟩ := hp
            have hG : gW X Fx_105 V_109 (Z) s H locs := hG
            refine vx_ret ?_
            exact g_iret hx hb hr hlocks hG (by have e9 : opRevise a (v1 : Int) y = aNoR a 1 := (by unfold opRevise; rw [if_pos (by omega)]; first | done | rfl); rw [e9]; exact ⟨hle_Fx_105, rfl, hS9.ex, rfl⟩) ⟨by show _ ≤ 680; omega, by show _ ≤ 13300; omega⟩ dX0_revise_111
          exact hp.elim
      · exfalso; omega
  · refine g_xr (vx_runVX (As := [.int (zI v)]) (rest := []) ⟨hx, hb, hml, hown, hts⟩ (metX0_shelf_f hS hA hst (by omega)) (vx_cwVW 1 hts (lw_VW q411 q413 qs0 q87 q414) rfl rfl rfl (by decide +kernel) ⟨Nat.le_of_ble_eq_true rfl, Nat.le_of_ble_eq_true rfl⟩) (g_preV hG (g_recv hG (hG.vo hx0) (ci := 0) rfl)) rfl rfl hl.1 rfl (lv_room (Nat.le_of_ble_eq_true rfl)) dX0_revise_2 ⟨by show _ ≤ 680; omega, by show _ ≤ 13300; omega⟩) hG (fun E9 ce9 q9 Fx_113 Vx_114 ws_ H locs hpx hG hce => ?_) (fun r_110 F_111 V_112 ws_ H locs hp hG => ?_)
    · obtain ⟨rfl, hle_Fx_113, hq9, rfl, rfl⟩ := hpx
      have hG : gW X Fx_113 V (Z) s H locs := hG
      refine g_catch (name := "LineRemarks$Refused") hown htab [⟨33, 47, 50, 224⟩] ⟨0, 104, 105, 21⟩ [] rfl (List.forall_mem_cons.mpr ⟨Or.inl (by decide), (fun z9 hz9 => absurd hz9 List.not_mem_nil)⟩) (by decide) (by decide) (hts _ q410) (hG.1.2.1.1 _ qn498) hce ?_
      refine lv_astore_n (lv' := [(3, .ref q9), (0, .ref x), (1, .int (zI v)), (2, .int (zI y))]) hx hb dX0_revise_105 rfl hl (by decide) rfl (fun ls hl => ?_)
      refine lv_aload_n hx hb dX0_revise_106 rfl (lv_at hl 1 rfl) ?_
      refine lv_aload_n hx hb dX0_revise_107 rfl (lv_at hl 0 rfl) ?_
      refine g_ci (va_runV (As := [.ref q9]) (rest := []) ⟨hx, hb, hml, hown, hts⟩ (metX0_refused (k := 1) (hS.mono hle_Fx_113) hA hq9 (by decide)) (cwV 1 hts (lw_V q589 q591 qs2 q87 q592) rfl rfl rfl (by decide +kernel) ⟨Nat.le_of_ble_eq_true rfl, Nat.le_of_ble_eq_true rfl⟩) (g_preV hG (g_recv hG (hG.vo hx0) (ci := 0) rfl)) rfl rfl hl.1 rfl (lv_room (Nat.le_of_ble_eq_true rfl)) dX0_revise_108 ⟨by show _ ≤ 680; omega, by show _ ≤ 13300; omega⟩) hG (fun r_115 F_116 V_117 ws_ H locs hp hG => ?_)
      obtain ⟨rfl, rfl, hS9, rfl⟩ := hp
      have hG : gW X Fx_113 V_117 (Z) s H locs := hG
      refine vx_ret ?_
      exact g_iret hx hb hr hlocks hG (by have e9 : opRevise a v y = aNoR a 1 := (by unfold opRevise; rw [if_pos (by omega)]; first | done | rfl); rw [e9]; exact ⟨hle_Fx_113, rfl, hS9.ex, rfl⟩) ⟨by show _ ≤ 680; omega, by show _ ≤ 13300; omega⟩ dX0_revise_111
    exact hp.elim

