set_option maxRecDepth 100000
section XS1
variable {X : gX} {F G : gF} {V U : gV} {x : Nat} {a : aS} {sa rf tr tb kl wa rv rk st : Nat} {sh ra la ma : Nat → Nat} {im : Option Nat}
theorem xS.ex (h : xS X F V x a sa rf tr tb kl wa rv rk st sh ra la ma im) : xX X F V x a := ⟨sa, rf, tr, tb, kl, wa, rv, rk, st, sh, ra, la, ma, im, h⟩
theorem xSh.any {i b : Nat} {y : aSh} (h : xSh X F V ma i b y) : ∃ h0 : Value, V (20 + i) = some (b, oB 3 [h0]) := by
  rcases y with _ | m | ⟨so, n, f⟩
  · exact ⟨_, h⟩
  · exact ⟨_, h⟩
  · obtain ⟨ro, ar, h1, -⟩ := h; exact ⟨_, h1⟩
theorem xS.setSh {i : Nat} {y : aSh} (h : xS X F V x a sa rf tr tb kl wa rv rk st sh ra la ma im) (hi : i < 8) (e : ∀ r, r ≠ 20 + i → r ≠ 40 + i → U r = V r) (hy : xSh X F U ma i (sh i) y) : xS X F U x (aSet a i y) sa rf tr tb kl wa rv rk st sh ra la ma im := by
  obtain ⟨h0, h1, ⟨g, h2, h2'⟩, h3, h4, h5, h6, h7⟩ := h
  refine ⟨(e 0 (by omega) (by omega)).trans h0, h1, ⟨g, (e 1 (by omega) (by omega)).trans h2, h2'⟩, h3.cg ⟨e 2 (by omega) (by omega), e 3 (by omega) (by omega)⟩, h4, h5.cg (fun r r1 r2 => e r (by omega) (by omega)), h6.cg (fun r r1 r2 => e r (by omega) (by omega)), fun j hj => ?_⟩
  show xSh X F U ma j (sh j) (va_up (aSv a) i y j)
  by_cases hji : j = i
  · subst hji; rw [va_up_self]; exact hy
  · rw [va_up_ne _ _ hji]
    exact xSh.cg (h7 j hj) ⟨e _ (by omega) (by omega), e _ (by omega) (by omega)⟩
end XS1
set_option maxHeartbeats 4000000 in
theorem metX0_newRow_0 {l : Launch} {X : gX} {F : gF} {V : gV} {Z : va_W} {n : Nat} (hn9 : n ≤ 160) : vx_Met l yX0_newRow (wsW_ yX0_newRow cX0_newRow 3 (some (FieldType.object "LineRemarks$Row")) [(0, 40, 78, 165), (41, 49, 78, 165), (50, 58, 78, 165), (59, 67, 78, 165), (68, 78, 78, 165)]) ({ frames := 3, cells := 2, slots := 162, locals := 61 }) (gP X F V (Z) [.int (zI 0), .int (zI (n : Int))]) (gQr X (fun u G U ws => F = G ∧ V = U ∧ ∃ ar : Nat, ((u, oB 5 [.ref ar]) :: (ar, rwE X 0 n (fun _ => 0)) :: Z) = ws)) (gXc X (fun _ _ _ _ _ => False)) 2 162 (gA X) := by
  refine vx_Met.gH (by decide) (Nat.le_of_ble_eq_true rfl) ?_
  intro p e s m below meth c ls hx hb hr hts hown hlocks hml hin htab hG hl
  have hl : lv_has ls 3 [(0, .int (zI 0)), (1, .int (zI (n : Int)))] := hl
  refine lv_iload_n hx hb dX0_newRow_0 rfl (lv_at hl 0 rfl) ?_
  refine g_tin hx hb 0 (off := 31) (tgt := 32) dX0_newRow_1 rfl (by decide) rfl (by decide) ?_
  refine g_new (ci := 5) hx hb hts in_X7 tyX7 tyX7_ok hown (hts _ q544) (hts _ q545) (hts _ q112) hG rfl (fs := [.null]) rfl ⟨Nat.le_of_ble_eq_true rfl, Nat.le_of_ble_eq_true rfl⟩ dX0_newRow_32 (fun ro H (hG : gW X F V ((ro, oB 5 [.null]) :: Z) s H _) => ?_)
  refine lv_dup hx hb dX0_newRow_35 rfl ?_
  refine lv_iload_n hx hb dX0_newRow_36 rfl (lv_at hl 1 rfl) ?_
  refine g_cv (va_runI (As := [.int (zI (n : Int))]) (rest := [.ref ro]) ⟨hx, hb, hml, hown, hts⟩ (metX7_init hn9) (cwI 1 hts (lw_meth q548) rfl rfl rfl (hts _ q112) (hts _ q546) (hts _ q547) rfl (by decide +kernel) ⟨Nat.le_of_ble_eq_true rfl, Nat.le_of_ble_eq_true rfl⟩) (g_preS hG) rfl rfl hl.1 rfl (lv_room (Nat.le_of_ble_eq_true rfl)) dX0_newRow_37 ⟨by show _ ≤ 2; omega, by show _ ≤ 162; omega⟩) hG (fun F_2 V_3 ws_ H locs hp hG => ?_)
  obtain ⟨rfl, rfl, ar, rfl⟩ := hp
  have hG : gW X F V ((ro, oB 5 [.ref ar]) :: (ar, rwE X 0 n (fun _ => 0)) :: Z) s H locs := hG
  refine vx_ret ?_
  exact g_rret hx hb hr (Or.inl ⟨_, rfl⟩) hlocks hG (⟨rfl, rfl, ar, rfl⟩) ⟨by show _ ≤ 2; omega, by show _ ≤ 162; omega⟩ dX0_newRow_40

set_option maxHeartbeats 4000000 in
theorem metX0_newRow_1 {l : Launch} {X : gX} {F : gF} {V : gV} {Z : va_W} {n : Nat} (hn9 : n ≤ 160) : vx_Met l yX0_newRow (wsW_ yX0_newRow cX0_newRow 3 (some (FieldType.object "LineRemarks$Row")) [(0, 40, 78, 165), (41, 49, 78, 165), (50, 58, 78, 165), (59, 67, 78, 165), (68, 78, 78, 165)]) ({ frames := 3, cells := 2, slots := 162, locals := 61 }) (gP X F V (Z) [.int (zI 1), .int (zI (n : Int))]) (gQr X (fun u G U ws => F = G ∧ V = U ∧ ∃ ar : Nat, ((u, oB 6 [.ref ar]) :: (ar, rwE X 1 n (fun _ => 0)) :: Z) = ws)) (gXc X (fun _ _ _ _ _ => False)) 2 162 (gA X) := by
  refine vx_Met.gH (by decide) (Nat.le_of_ble_eq_true rfl) ?_
  intro p e s m below meth c ls hx hb hr hts hown hlocks hml hin htab hG hl
  have hl : lv_has ls 3 [(0, .int (zI 1)), (1, .int (zI (n : Int)))] := hl
  refine lv_iload_n hx hb dX0_newRow_0 rfl (lv_at hl 0 rfl) ?_
  refine g_tin hx hb 1 (off := 40) (tgt := 41) dX0_newRow_1 rfl (by decide) rfl (by decide) ?_
  refine g_new (ci := 6) hx hb hts in_X8 tyX8 tyX8_ok hown (hts _ q557) (hts _ q558) (hts _ q113) hG rfl (fs := [.null]) rfl ⟨Nat.le_of_ble_eq_true rfl, Nat.le_of_ble_eq_true rfl⟩ dX0_newRow_41 (fun ro H (hG : gW X F V ((ro, oB 6 [.null]) :: Z) s H _) => ?_)
  refine lv_dup hx hb dX0_newRow_44 rfl ?_
  refine lv_iload_n hx hb dX0_newRow_45 rfl (lv_at hl 1 rfl) ?_
  refine g_cv (va_runI (As := [.int (zI (n : Int))]) (rest := [.ref ro]) ⟨hx, hb, hml, hown, hts⟩ (metX8_init hn9) (cwI 1 hts (lw_meth q561) rfl rfl rfl (hts _ q113) (hts _ q559) (hts _ q560) rfl (by decide +kernel) ⟨Nat.le_of_ble_eq_true rfl, Nat.le_of_ble_eq_true rfl⟩) (g_preS hG) rfl rfl hl.1 rfl (lv_room (Nat.le_of_ble_eq_true rfl)) dX0_newRow_46 ⟨by show _ ≤ 2; omega, by show _ ≤ 162; omega⟩) hG (fun F_2 V_3 ws_ H locs hp hG => ?_)
  obtain ⟨rfl, rfl, ar, rfl⟩ := hp
  have hG : gW X F V ((ro, oB 6 [.ref ar]) :: (ar, rwE X 1 n (fun _ => 0)) :: Z) s H locs := hG
  refine vx_ret ?_
  exact g_rret hx hb hr (Or.inl ⟨_, rfl⟩) hlocks hG (⟨rfl, rfl, ar, rfl⟩) ⟨by show _ ≤ 2; omega, by show _ ≤ 162; omega⟩ dX0_newRow_49

set_option maxHeartbeats 4000000 in
theorem metX0_newRow_2 {l : Launch} {X : gX} {F : gF} {V : gV} {Z : va_W} {n : Nat} (hn9 : n ≤ 160) : vx_Met l yX0_newRow (wsW_ yX0_newRow cX0_newRow 3 (some (FieldType.object "LineRemarks$Row")) [(0, 40, 78, 165), (41, 49, 78, 165), (50, 58, 78, 165), (59, 67, 78, 165), (68, 78, 78, 165)]) ({ frames := 3, cells := 2, slots := 162, locals := 61 }) (gP X F V (Z) [.int (zI 2), .int (zI (n : Int))]) (gQr X (fun u G U ws => F = G ∧ V = U ∧ ∃ ar : Nat, ((u, oB 7 [.ref ar]) :: (ar, rwE X 2 n (fun _ => 0)) :: Z) = ws)) (gXc X (fun _ _ _ _ _ => False)) 2 162 (gA X) := by
  refine vx_Met.gH (by decide) (Nat.le_of_ble_eq_true rfl) ?_
  intro p e s m below meth c ls hx hb hr hts hown hlocks hml hin htab hG hl
  have hl : lv_has ls 3 [(0, .int (zI 2)), (1, .int (zI (n : Int)))] := hl
  refine lv_iload_n hx hb dX0_newRow_0 rfl (lv_at hl 0 rfl) ?_
  refine g_tin hx hb 2 (off := 49) (tgt := 50) dX0_newRow_1 rfl (by decide) rfl (by decide) ?_
  refine g_new (ci := 7) hx hb hts in_X9 tyX9 tyX9_ok hown (hts _ q568) (hts _ q569) (hts _ q114) hG rfl (fs := [.null]) rfl ⟨Nat.le_of_ble_eq_true rfl, Nat.le_of_ble_eq_true rfl⟩ dX0_newRow_50 (fun ro H (hG : gW X F V ((ro, oB 7 [.null]) :: Z) s H _) => ?_)
  refine lv_dup hx hb dX0_newRow_53 rfl ?_
  refine lv_iload_n hx hb dX0_newRow_54 rfl (lv_at hl 1 rfl) ?_
  refine g_cv (va_runI (As := [.int (zI (n : Int))]) (rest := [.ref ro]) ⟨hx, hb, hml, hown, hts⟩ (metX9_init hn9) (cwI 1 hts (lw_meth q572) rfl rfl rfl (hts _ q114) (hts _ q570) (hts _ q571) rfl (by decide +kernel) ⟨Nat.le_of_ble_eq_true rfl, Nat.le_of_ble_eq_true rfl⟩) (g_preS hG) rfl rfl hl.1 rfl (lv_room (Nat.le_of_ble_eq_true rfl)) dX0_newRow_55 ⟨by show _ ≤ 2; omega, by show _ ≤ 162; omega⟩) hG (fun F_2 V_3 ws_ H locs hp hG => ?_)
  obtain ⟨rfl, rfl, ar, rfl⟩ := hp
  have hG : gW X F V ((ro, oB 7 [.ref ar]) :: (ar, rwE X 2 n (fun _ => 0)) :: Z) s H locs := hG
  refine vx_ret ?_
  exact g_rret hx hb hr (Or.inl ⟨_, rfl⟩) hlocks hG (⟨rfl, rfl, ar, rfl⟩) ⟨by show _ ≤ 2; omega, by show _ ≤ 162; omega⟩ dX0_newRow_58

set_option maxHeartbeats 4000000 in
theorem metX0_newRow_3 {l : Launch} {X : gX} {F : gF} {V : gV} {Z : va_W} {n : Nat} (hn9 : n ≤ 160) : vx_Met l yX0_newRow (wsW_ yX0_newRow cX0_newRow 3 (some (FieldType.object "LineRemarks$Row")) [(0, 40, 78, 165), (41, 49, 78, 165), (50, 58, 78, 165), (59, 67, 78, 165), (68, 78, 78, 165)]) ({ frames := 3, cells := 2, slots := 162, locals := 61 }) (gP X F V (Z) [.int (zI 3), .int (zI (n : Int))]) (gQr X (fun u G U ws => F = G ∧ V = U ∧ ∃ ar : Nat, ((u, oB 8 [.ref ar]) :: (ar, rwE X 3 n (fun _ => 0)) :: Z) = ws)) (gXc X (fun _ _ _ _ _ => False)) 2 162 (gA X) := by
  refine vx_Met.gH (by decide) (Nat.le_of_ble_eq_true rfl) ?_
  intro p e s m below meth c ls hx hb hr hts hown hlocks hml hin htab hG hl
  have hl : lv_has ls 3 [(0, .int (zI 3)), (1, .int (zI (n : Int)))] := hl
  refine lv_iload_n hx hb dX0_newRow_0 rfl (lv_at hl 0 rfl) ?_
  refine g_tin hx hb 3 (off := 58) (tgt := 59) dX0_newRow_1 rfl (by decide) rfl (by decide) ?_
  refine g_new (ci := 8) hx hb hts in_X10 tyX10 tyX10_ok hown (hts _ q578) (hts _ q579) (hts _ q115) hG rfl (fs := [.null]) rfl ⟨Nat.le_of_ble_eq_true rfl, Nat.le_of_ble_eq_true rfl⟩ dX0_newRow_59 (fun ro H (hG : gW X F V ((ro, oB 8 [.null]) :: Z) s H _) => ?_)
  refine lv_dup hx hb dX0_newRow_62 rfl ?_
  refine lv_iload_n hx hb dX0_newRow_63 rfl (lv_at hl 1 rfl) ?_
  refine g_cv (va_runI (As := [.int (zI (n : Int))]) (rest := [.ref ro]) ⟨hx, hb, hml, hown, hts⟩ (metX10_init hn9) (cwI 1 hts (lw_meth q582) rfl rfl rfl (hts _ q115) (hts _ q580) (hts _ q581) rfl (by decide +kernel) ⟨Nat.le_of_ble_eq_true rfl, Nat.le_of_ble_eq_true rfl⟩) (g_preS hG) rfl rfl hl.1 rfl (lv_room (Nat.le_of_ble_eq_true rfl)) dX0_newRow_64 ⟨by show _ ≤ 2; omega, by show _ ≤ 162; omega⟩) hG (fun F_2 V_3 ws_ H locs hp hG => ?_)
  obtain ⟨rfl, rfl, ar, rfl⟩ := hp
  have hG : gW X F V ((ro, oB 8 [.ref ar]) :: (ar, rwE X 3 n (fun _ => 0)) :: Z) s H locs := hG
  refine vx_ret ?_
  exact g_rret hx hb hr (Or.inl ⟨_, rfl⟩) hlocks hG (⟨rfl, rfl, ar, rfl⟩) ⟨by show _ ≤ 2; omega, by show _ ≤ 162; omega⟩ dX0_newRow_67

set_option maxHeartbeats 4000000 in
theorem metX0_row {l : Launch} {X : gX} {F : gF} {V : gV} {Z : va_W} {x sa rf tr tb kl wa rv rk st : Nat} {sh ra la ma : Nat → Nat} {im : Option Nat} {a : aS} (hS : xS X F V x a sa rf tr tb kl wa rv rk st sh ra la ma im) (hA : aOK a) (hst : l.stackTraces = false) {v so n : Int} (hrv : (-2147483648 ≤ v ∧ v < 2147483648)) (hrso : (-2147483648 ≤ so ∧ so < 2147483648)) (hrn : (-2147483648 ≤ n ∧ n < 2147483648)) : vx_Met l yX0_row (wsW_ yX0_row cX0_row 5 (some FieldType.int) [(0, 63, 64, 21)]) ({ frames := 9, cells := 8, slots := 400, locals := 10278 }) (gP X F V (Z) [.ref x, .int (zI v), .int (zI so), .int (zI n)]) (gQi X (fun u G U ws => gLe F G ∧ u = zI (opRow a v so n).1 ∧ xX X G U x (opRow a v so n).2 ∧ Z = ws)) (gXc X (fun _ _ _ _ _ => False)) 8 400 (gA X) := by
  refine vx_Met.gH (by decide) (Nat.le_of_ble_eq_true rfl) ?_
  intro p e s m below meth c ls hx hb hr hts hown hlocks hml hin htab hG hl
  have hl : lv_has ls 5 [(0, .ref x), (1, .int (zI v)), (2, .int (zI so)), (3, .int (zI n))] := hl
  have hSA := hS
  obtain ⟨hx0, ⟨fs9, hx1, hsh⟩, ⟨gr9, hx2, hgr⟩, hx3, hx4, hW, hx6, hx7⟩ := hSA
  have hSA := hS
  have hK := hA.w
  have hNN := hK.n
  have hMM := hK.m
  refine lv_aload_n hx hb dX0_row_0 rfl (lv_at hl 0 rfl) ?_
  refine lv_iload_n hx hb dX0_row_1 rfl (lv_at hl 1 rfl) ?_
  by_cases hv7 : 0 ≤ v ∧ v ≤ 7
  · obtain ⟨v1, rfl⟩ : ∃ z : Nat, v = (z : Int) := ⟨v.toNat, by omega⟩
    refine g_xr (vx_runVX (As := [.int (zI (v1 : Int))]) (rest := []) ⟨hx, hb, hml, hown, hts⟩ (metX0_shelf_t (v := v1) hS hA (by omega)) (vx_cwVW 1 hts (lw_VW q411 q413 qs0 q87 q414) rfl rfl rfl (by decide +kernel) ⟨Nat.le_of_ble_eq_true rfl, Nat.le_of_ble_eq_true rfl⟩) (g_preV hG (g_recv hG (hG.vo hx0) (ci := 0) rfl)) rfl rfl hl.1 rfl (lv_room (Nat.le_of_ble_eq_true rfl)) dX0_row_2 ⟨by show _ ≤ 8; omega, by show _ ≤ 400; omega⟩) hG (fun E9 ce9 q9 Fx_4 Vx_5 ws_ H locs hpx hG hce => ?_) (fun r_1 F_2 V_3 ws_ H locs hp hG => ?_)
    · exact hpx.elim
    obtain ⟨rfl, rfl, rfl, rfl⟩ := hp
    have hG : gW X F V (Z) s H locs := hG
    refine lv_astore (lv' := [(4, .ref (sh v1)), (0, .ref x), (1, .int (zI (v1 : Int))), (2, .int (zI so)), (3, .int (zI n))]) hx hb dX0_row_5 hl (by decide) rfl (fun ls hl => ?_)
    refine lv_iload_n hx hb dX0_row_7 rfl (lv_at hl 4 rfl) ?_
    refine g_lt (tgt := 15) hx hb dX0_row_8 (by decide) (by omega) (fun h3 => ?_) (fun h3 => ?_)
    · refine lv_iconst (v := zI 0) hx hb dX0_row_15 (by decide +kernel) ?_
      refine lv_bipush (v := zI (-4)) hx hb dX0_row_16 (by decide +kernel) ?_
      refine g_xv (vx_runS (As := [.int (zI 0), .int (zI (-4))]) (rest := []) ⟨hx, hb, hml, hown, hts⟩ (metX0_need_f (k := 4)) (va_cwS 2 hts (lw_S q520 q521 q87 q522) rfl rfl rfl (by decide +kernel) ⟨Nat.le_of_ble_eq_true rfl, Nat.le_of_ble_eq_true rfl⟩) (g_preS hG) rfl rfl hl.1 rfl (lv_room (Nat.le_of_ble_eq_true rfl)) dX0_row_18 ⟨by show _ ≤ 8; omega, by show _ ≤ 400; omega⟩) hG (fun E9 ce9 q9 Fx_9 Vx_10 ws_ H locs hpx hG hce => ?_) (fun F_7 V_8 ws_ H locs hp hG => ?_)
      · obtain ⟨rfl, hle_Fx_9, hq9, rfl, rfl⟩ := hpx
        have hG : gW X Fx_9 V (Z) s H locs := hG
        refine g_catch (name := "LineRemarks$Refused") hown htab [] ⟨0, 63, 64, 21⟩ [] rfl (fun z9 hz9 => absurd hz9 List.not_mem_nil) (by decide) (by decide) (hts _ q410) (hG.1.2.1.1 _ qn498) hce ?_
        refine lv_astore (lv' := [(4, .ref q9), (0, .ref x), (1, .int (zI (v1 : Int))), (2, .int (zI so)), (3, .int (zI n))]) hx hb dX0_row_64 hl (by decide) rfl (fun ls hl => ?_)
        refine lv_aload_n hx hb dX0_row_66 rfl (lv_at hl 1 rfl) ?_
        refine lv_aload hx hb dX0_row_67 (lv_at hl 0 rfl) ?_
        refine g_ci (va_runV (As := [.ref q9]) (rest := []) ⟨hx, hb, hml, hown, hts⟩ (metX0_refused (k := 4) (hS.mono hle_Fx_9) hA hq9 (by decide)) (cwV 1 hts (lw_V q589 q591 qs2 q87 q592) rfl rfl rfl (by decide +kernel) ⟨Nat.le_of_ble_eq_true rfl, Nat.le_of_ble_eq_true rfl⟩) (g_preV hG (g_recv hG (hG.vo hx0) (ci := 0) rfl)) rfl rfl hl.1 rfl (lv_room (Nat.le_of_ble_eq_true rfl)) dX0_row_69 ⟨by show _ ≤ 8; omega, by show _ ≤ 400; omega⟩) hG (fun r_11 F_12 V_13 ws_ H locs hp hG => ?_)
        obtain ⟨rfl, rfl, hS9, rfl⟩ := hp
        have hG : gW X Fx_9 V_13 (Z) s H locs := hG
        refine vx_ret ?_
        exact g_iret hx hb hr hlocks hG (by have e9 : opRow a (v1 : Int) so n = aNoR a 4 := (by unfold opRow; rw [if_neg (by omega), if_pos (by omega)]); rw [e9]; exact ⟨hle_Fx_9, rfl, hS9.ex, rfl⟩) ⟨by show _ ≤ 8; omega, by show _ ≤ 400; omega⟩ dX0_row_72
      exact hp.elim
    · refine lv_iconst (v := zI 1) hx hb dX0_row_11 (by decide +kernel) ?_
      refine lv_goto (tgt := 16) hx hb dX0_row_12 (by decide) ?_
      refine lv_bipush (v := zI (-4)) hx hb dX0_row_16 (by decide +kernel) ?_
      refine g_cv (va_runS (As := [.int (zI 1), .int (zI (-4))]) (rest := []) ⟨hx, hb, hml, hown, hts⟩ (metX0_need_t (b := 1) (by decide)) (va_cwS 2 hts (lw_S q520 q521 q87 q522) rfl rfl rfl (by decide +kernel) ⟨Nat.le_of_ble_eq_true rfl, Nat.le_of_ble_eq_true rfl⟩) (g_preS hG) rfl rfl hl.1 rfl (lv_room (Nat.le_of_ble_eq_true rfl)) dX0_row_18 ⟨by show _ ≤ 8; omega, by show _ ≤ 400; omega⟩) hG (fun F_15 V_16 ws_ H locs hp hG => ?_)
      obtain ⟨rfl, rfl, rfl⟩ := hp
      have hG : gW X F V (Z) s H locs := hG
      by_cases hs3 : 0 ≤ so ∧ so ≤ 3
      · refine lv_iload_n hx hb dX0_row_21 rfl (lv_at hl 3 rfl) ?_
        refine g_i2l hx hb dX0_row_22 (by omega) ?_
        refine lv_lconst (v := zL 0) hx hb dX0_row_23 (by decide +kernel) ?_
        refine lv_ldc2 (v := 3) hx hb hown (hts _ q523) dX0_row_24 ?_
        refine g_topv (y := .long (zL 3)) (congrArg Value.long (by decide +kernel)) ?_
        refine g_ci (va_runS (As := [.long (zL so), .long (zL 0), .long (zL 3)]) (rest := []) ⟨hx, hb, hml, hown, hts⟩ (metX0_in (a9 := so) (b9 := 0) (c9 := 3) (by omega)) (va_cwS 3 hts (lw_S q524 q525 q87 q526) rfl rfl rfl (by decide +kernel) ⟨Nat.le_of_ble_eq_true rfl, Nat.le_of_ble_eq_true rfl⟩) (g_preS hG) rfl rfl hl.1 rfl (lv_room (Nat.le_of_ble_eq_true rfl)) dX0_row_27 ⟨by show _ ≤ 8; omega, by show _ ≤ 400; omega⟩) hG (fun r_17 F_18 V_19 ws_ H locs hp hG => ?_)
        obtain ⟨rfl, rfl, rfl, rfl⟩ := hp
        have hG : gW X F V (Z) s H locs := hG
        refine g_topz (y := 1) (by rw [decide_eq_true (by omega)]; rfl) ?_
        refine lv_bipush (v := zI (-6)) hx hb dX0_row_30 (by decide +kernel) ?_
        refine g_cv (va_runS (As := [.int (zI 1), .int (zI (-6))]) (rest := []) ⟨hx, hb, hml, hown, hts⟩ (metX0_need_t (b := 1) (by decide)) (va_cwS 2 hts (lw_S q520 q521 q87 q522) rfl rfl rfl (by decide +kernel) ⟨Nat.le_of_ble_eq_true rfl, Nat.le_of_ble_eq_true rfl⟩) (g_preS hG) rfl rfl hl.1 rfl (lv_room (Nat.le_of_ble_eq_true rfl)) dX0_row_32 ⟨by show _ ≤ 8; omega, by show _ ≤ 400; omega⟩) hG (fun F_21 V_22 ws_ H locs hp hG => ?_)
        obtain ⟨rfl, rfl, rfl⟩ := hp
        have hG : gW X F V (Z) s H locs := hG
        refine lv_iload_n hx hb dX0_row_35 rfl (lv_at hl 4 rfl) ?_
        refine lv_sipush (v := zI 160) hx hb dX0_row_36 (by decide +kernel) ?_
        refine g_cgt (tgt := 46) hx hb dX0_row_39 (by decide) (by omega) (fun h4 => ?_) (fun h4 => ?_)
        · refine lv_iconst (v := zI 0) hx hb dX0_row_46 (by decide +kernel) ?_
          refine lv_bipush (v := zI (-7)) hx hb dX0_row_47 (by decide +kernel) ?_
          refine g_xv (vx_runS (As := [.int (zI 0), .int (zI (-7))]) (rest := []) ⟨hx, hb, hml, hown, hts⟩ (metX0_need_f (k := 7)) (va_cwS 2 hts (lw_S q520 q521 q87 q522) rfl rfl rfl (by decide +kernel) ⟨Nat.le_of_ble_eq_true rfl, Nat.le_of_ble_eq_true rfl⟩) (g_preS hG) rfl rfl hl.1 rfl (lv_room (Nat.le_of_ble_eq_true rfl)) dX0_row_49 ⟨by show _ ≤ 8; omega, by show _ ≤ 400; omega⟩) hG (fun E9 ce9 q9 Fx_26 Vx_27 ws_ H locs hpx hG hce => ?_) (fun F_24 V_25 ws_ H locs hp hG => ?_)
          · obtain ⟨rfl, hle_Fx_26, hq9, rfl, rfl⟩ := hpx
            have hG : gW X Fx_26 V (Z) s H locs := hG
            refine g_catch (name := "LineRemarks$Refused") hown htab [] ⟨0, 63, 64, 21⟩ [] rfl (fun z9 hz9 => absurd hz9 List.not_mem_nil) (by decide) (by decide) (hts _ q410) (hG.1.2.1.1 _ qn498) hce ?_
            refine lv_astore (lv' := [(4, .ref q9), (0, .ref x), (1, .int (zI (v1 : Int))), (2, .int (zI so)), (3, .int (zI n))]) hx hb dX0_row_64 hl (by decide) rfl (fun ls hl => ?_)
            refine lv_aload_n hx hb dX0_row_66 rfl (lv_at hl 1 rfl) ?_
            refine lv_aload hx hb dX0_row_67 (lv_at hl 0 rfl) ?_
            refine g_ci (va_runV (As := [.ref q9]) (rest := []) ⟨hx, hb, hml, hown, hts⟩ (metX0_refused (k := 7) (hS.mono hle_Fx_26) hA hq9 (by decide)) (cwV 1 hts (lw_V q589 q591 qs2 q87 q592) rfl rfl rfl (by decide +kernel) ⟨Nat.le_of_ble_eq_true rfl, Nat.le_of_ble_eq_true rfl⟩) (g_preV hG (g_recv hG (hG.vo hx0) (ci := 0) rfl)) rfl rfl hl.1 rfl (lv_room (Nat.le_of_ble_eq_true rfl)) dX0_row_69 ⟨by show _ ≤ 8; omega, by show _ ≤ 400; omega⟩) hG (fun r_28 F_29 V_30 ws_ H locs hp hG => ?_)
            obtain ⟨rfl, rfl, hS9, rfl⟩ := hp
            have hG : gW X Fx_26 V_30 (Z) s H locs := hG
            refine vx_ret ?_
            exact g_iret hx hb hr hlocks hG (by have e9 : opRow a (v1 : Int) so n = aNoR a 7 := (by unfold opRow; rw [if_neg (by omega), if_neg (by omega), if_neg (by omega), if_pos (by omega)]); rw [e9]; exact ⟨hle_Fx_26, rfl, hS9.ex, rfl⟩) ⟨by show _ ≤ 8; omega, by show _ ≤ 400; omega⟩ dX0_row_72
          exact hp.elim
        · refine lv_iconst (v := zI 1) hx hb dX0_row_42 (by decide +kernel) ?_
          refine lv_goto (tgt := 47) hx hb dX0_row_43 (by decide) ?_
          refine lv_bipush (v := zI (-7)) hx hb dX0_row_47 (by decide +kernel) ?_
          refine g_cv (va_runS (As := [.int (zI 1), .int (zI (-7))]) (rest := []) ⟨hx, hb, hml, hown, hts⟩ (metX0_need_t (b := 1) (by decide)) (va_cwS 2 hts (lw_S q520 q521 q87 q522) rfl rfl rfl (by decide +kernel) ⟨Nat.le_of_ble_eq_true rfl, Nat.le_of_ble_eq_true rfl⟩) (g_preS hG) rfl rfl hl.1 rfl (lv_room (Nat.le_of_ble_eq_true rfl)) dX0_row_49 ⟨by show _ ≤ 8; omega, by show _ ≤ 400; omega⟩) hG (fun F_32 V_33 ws_ H locs hp hG => ?_)
          obtain ⟨rfl, rfl, rfl⟩ := hp
          have hG : gW X F V (Z) s H locs := hG
          obtain ⟨n1, rfl⟩ : ∃ z : Nat, n = (z : Int) := ⟨n.toNat, by omega⟩
          rcases (show so = 0 ∨ so = 1 ∨ so = 2 ∨ so = 3 by omega) with hq | hq | hq | hq
          · have hk9 : so = 0 := by omega
            subst hk9
            refine lv_aload hx hb dX0_row_52 (lv_at hl 0 rfl) ?_
            refine lv_iload_n hx hb dX0_row_54 rfl (lv_at hl 3 rfl) ?_
            refine lv_iload_n hx hb dX0_row_55 rfl (lv_at hl 4 rfl) ?_
            refine g_xr (vx_runSX (As := [.int (zI 0), .int (zI (n1 : Int))]) (rest := [.ref (sh v1)]) ⟨hx, hb, hml, hown, hts⟩ (metX0_newRow_0 (n := n1) (by omega)) (vx_cwSW 2 hts (lw_SW q527 q528 q87 q529) rfl rfl rfl (by decide +kernel) ⟨Nat.le_of_ble_eq_true rfl, Nat.le_of_ble_eq_true rfl⟩) (g_preS hG) rfl rfl hl.1 rfl (lv_room (Nat.le_of_ble_eq_true rfl)) dX0_row_56 ⟨by show _ ≤ 8; omega, by show _ ≤ 400; omega⟩) hG (fun E9 ce9 q9 Fx_36 Vx_37 ws_ H locs hpx hG hce => ?_) (fun ro F_34 V_35 ws_ H locs hp hG => ?_)
            · exact hpx.elim
            obtain ⟨rfl, rfl, ar, rfl⟩ := hp
            have hG : gW X F V ((ro, oB 5 [.ref ar]) :: (ar, rwE X 0 n1 (fun _ => 0)) :: Z) s H locs := hG
            obtain ⟨G1, hle_G1, hro, hG⟩ := hG.freeze
            have hG : gW X G1 V ((ar, rwE X 0 n1 (fun _ => 0)) :: Z) s _ _ := hG
            have hG := hG.toV (40 + v1)
            have hx0 : (va_up V (40 + v1) (some (ar, rwE X 0 n1 (fun _ => 0)))) 0 = some (x, oB 0 [.ref sa, .ref rf, .ref tr, .ref kl, .ref wa, va_rf im, .int (zI (aFa a))]) := (vun (by omega)).trans hx0
            have hx2 : (va_up V (40 + v1) (some (ar, rwE X 0 n1 (fun _ => 0)))) 1 = some (rf, aI (gT X 0) 8 gr9) := (vun (by omega)).trans hx2
            have hAr : (va_up V (40 + v1) (some (ar, rwE X 0 n1 (fun _ => 0)))) (40 + v1) = some (ar, rwE X 0 n1 (fun _ => 0)) := vus
            have hG : gW X G1 (va_up V (40 + v1) (some (ar, rwE X 0 n1 (fun _ => 0)))) (Z) s _ _ := hG
            obtain ⟨h0, hsv⟩ := xSh.any (hx7 v1 (by omega))
            have hsv : (va_up V (40 + v1) (some (ar, rwE X 0 n1 (fun _ => 0)))) (20 + v1) = some (sh v1, oB 3 [h0]) := (vun (by omega)).trans hsv
            refine g_putV (ci := 3) hx hb hts in_X3 tyX3 tyX3_ok nmX3 hown hG hsv rfl 0 (Nat.le_of_ble_eq_true rfl) (hts _ q380) (fun _ h9 => h9) rfl (tyX3_ok 0 (Nat.le_of_ble_eq_true rfl)) rfl rfl (Nat.le_of_ble_eq_true rfl) dX0_row_59 (fun H locs (hG : gW X G1 (va_up (va_up V (40 + v1) (some (ar, rwE X 0 n1 (fun _ => 0)))) (20 + v1) (some ((sh v1), oB 3 [.ref ro]))) (Z) s H locs) => ?_)
            have hx0 : (va_up (va_up V (40 + v1) (some (ar, rwE X 0 n1 (fun _ => 0)))) (20 + v1) (some ((sh v1), oB 3 [.ref ro]))) 0 = some (x, oB 0 [.ref sa, .ref rf, .ref tr, .ref kl, .ref wa, va_rf im, .int (zI (aFa a))]) := (vun (by omega)).trans hx0
            have hx2 : (va_up (va_up V (40 + v1) (some (ar, rwE X 0 n1 (fun _ => 0)))) (20 + v1) (some ((sh v1), oB 3 [.ref ro]))) 1 = some (rf, aI (gT X 0) 8 gr9) := (vun (by omega)).trans hx2
            have hAr : (va_up (va_up V (40 + v1) (some (ar, rwE X 0 n1 (fun _ => 0)))) (20 + v1) (some ((sh v1), oB 3 [.ref ro]))) (40 + v1) = some (ar, rwE X 0 n1 (fun _ => 0)) := (vun (by omega)).trans hAr
            have hsv : (va_up (va_up V (40 + v1) (some (ar, rwE X 0 n1 (fun _ => 0)))) (20 + v1) (some ((sh v1), oB 3 [.ref ro]))) (20 + v1) = some ((sh v1), oB 3 [.ref ro]) := vus
            refine lv_iconst (v := zI 1) hx hb dX0_row_62 (by decide +kernel) ?_
            have hS1 := (hS.mono hle_G1).setSh (i := v1) (U := (va_up (va_up V (40 + v1) (some (ar, rwE X 0 n1 (fun _ => 0)))) (20 + v1) (some ((sh v1), oB 3 [.ref ro])))) (y := some (.inr (0, n1, fun _ => 0))) (by omega) (fun r9 h1 h2 => (va_up_ne _ _ h1).trans (va_up_ne _ _ h2)) ⟨ro, ar, hsv, hro, hAr, fun j hj => rfl⟩
            refine vx_ret ?_
            exact g_iret hx hb hr hlocks hG (by have e9 : opRow a (v1 : Int) 0 (n1 : Int) = (1, aSet a v1 (some (.inr (0, n1, fun _ => 0)))) := (by unfold opRow; rw [if_neg (by omega), if_neg (by omega), if_neg (by omega), if_neg (by omega)]; rfl); rw [e9]; exact ⟨hle_G1, rfl, (hS1).ex, rfl⟩) ⟨by show _ ≤ 8; omega, by show _ ≤ 400; omega⟩ dX0_row_63
          · have hk9 : so = 1 := by omega
            subst hk9
            refine lv_aload hx hb dX0_row_52 (lv_at hl 0 rfl) ?_
            refine lv_iload_n hx hb dX0_row_54 rfl (lv_at hl 3 rfl) ?_
            refine lv_iload_n hx hb dX0_row_55 rfl (lv_at hl 4 rfl) ?_
            refine g_xr (vx_runSX (As := [.int (zI 1), .int (zI (n1 : Int))]) (rest := [.ref (sh v1)]) ⟨hx, hb, hml, hown, hts⟩ (metX0_newRow_1 (n := n1) (by omega)) (vx_cwSW 2 hts (lw_SW q527 q528 q87 q529) rfl rfl rfl (by decide +kernel) ⟨Nat.le_of_ble_eq_true rfl, Nat.le_of_ble_eq_true rfl⟩) (g_preS hG) rfl rfl hl.1 rfl (lv_room (Nat.le_of_ble_eq_true rfl)) dX0_row_56 ⟨by show _ ≤ 8; omega, by show _ ≤ 400; omega⟩) hG (fun E9 ce9 q9 Fx_40 Vx_41 ws_ H locs hpx hG hce => ?_) (fun ro F_38 V_39 ws_ H locs hp hG => ?_)
            · exact hpx.elim
            obtain ⟨rfl, rfl, ar, rfl⟩ := hp
            have hG : gW X F V ((ro, oB 6 [.ref ar]) :: (ar, rwE X 1 n1 (fun _ => 0)) :: Z) s H locs := hG
            obtain ⟨G1, hle_G1, hro, hG⟩ := hG.freeze
            have hG : gW X G1 V ((ar, rwE X 1 n1 (fun _ => 0)) :: Z) s _ _ := hG
            have hG := hG.toV (40 + v1)
            have hx0 : (va_up V (40 + v1) (some (ar, rwE X 1 n1 (fun _ => 0)))) 0 = some (x, oB 0 [.ref sa, .ref rf, .ref tr, .ref kl, .ref wa, va_rf im, .int (zI (aFa a))]) := (vun (by omega)).trans hx0
            have hx2 : (va_up V (40 + v1) (some (ar, rwE X 1 n1 (fun _ => 0)))) 1 = some (rf, aI (gT X 0) 8 gr9) := (vun (by omega)).trans hx2
            have hAr : (va_up V (40 + v1) (some (ar, rwE X 1 n1 (fun _ => 0)))) (40 + v1) = some (ar, rwE X 1 n1 (fun _ => 0)) := vus
            have hG : gW X G1 (va_up V (40 + v1) (some (ar, rwE X 1 n1 (fun _ => 0)))) (Z) s _ _ := hG
            obtain ⟨h0, hsv⟩ := xSh.any (hx7 v1 (by omega))
            have hsv : (va_up V (40 + v1) (some (ar, rwE X 1 n1 (fun _ => 0)))) (20 + v1) = some (sh v1, oB 3 [h0]) := (vun (by omega)).trans hsv
            refine g_putV (ci := 3) hx hb hts in_X3 tyX3 tyX3_ok nmX3 hown hG hsv rfl 0 (Nat.le_of_ble_eq_true rfl) (hts _ q380) (fun _ h9 => h9) rfl (tyX3_ok 0 (Nat.le_of_ble_eq_true rfl)) rfl rfl (Nat.le_of_ble_eq_true rfl) dX0_row_59 (fun H locs (hG : gW X G1 (va_up (va_up V (40 + v1) (some (ar, rwE X 1 n1 (fun _ => 0)))) (20 + v1) (some ((sh v1), oB 3 [.ref ro]))) (Z) s H locs) => ?_)
            have hx0 : (va_up (va_up V (40 + v1) (some (ar, rwE X 1 n1 (fun _ => 0)))) (20 + v1) (some ((sh v1), oB 3 [.ref ro]))) 0 = some (x, oB 0 [.ref sa, .ref rf, .ref tr, .ref kl, .ref wa, va_rf im, .int (zI (aFa a))]) := (vun (by omega)).trans hx0
            have hx2 : (va_up (va_up V (40 + v1) (some (ar, rwE X 1 n1 (fun _ => 0)))) (20 + v1) (some ((sh v1), oB 3 [.ref ro]))) 1 = some (rf, aI (gT X 0) 8 gr9) := (vun (by omega)).trans hx2
            have hAr : (va_up (va_up V (40 + v1) (some (ar, rwE X 1 n1 (fun _ => 0)))) (20 + v1) (some ((sh v1), oB 3 [.ref ro]))) (40 + v1) = some (ar, rwE X 1 n1 (fun _ => 0)) := (vun (by omega)).trans hAr
            have hsv : (va_up (va_up V (40 + v1) (some (ar, rwE X 1 n1 (fun _ => 0)))) (20 + v1) (some ((sh v1), oB 3 [.ref ro]))) (20 + v1) = some ((sh v1), oB 3 [.ref ro]) := vus
            refine lv_iconst (v := zI 1) hx hb dX0_row_62 (by decide +kernel) ?_
            have hS1 := (hS.mono hle_G1).setSh (i := v1) (U := (va_up (va_up V (40 + v1) (some (ar, rwE X 1 n1 (fun _ => 0)))) (20 + v1) (some ((sh v1), oB 3 [.ref ro])))) (y := some (.inr (1, n1, fun _ => 0))) (by omega) (fun r9 h1 h2 => (va_up_ne _ _ h1).trans (va_up_ne _ _ h2)) ⟨ro, ar, hsv, hro, hAr, fun j hj => rfl⟩
            refine vx_ret ?_
            exact g_iret hx hb hr hlocks hG (by have e9 : opRow a (v1 : Int) 1 (n1 : Int) = (1, aSet a v1 (some (.inr (1, n1, fun _ => 0)))) := (by unfold opRow; rw [if_neg (by omega), if_neg (by omega), if_neg (by omega), if_neg (by omega)]; rfl); rw [e9]; exact ⟨hle_G1, rfl, (hS1).ex, rfl⟩) ⟨by show _ ≤ 8; omega, by show _ ≤ 400; omega⟩ dX0_row_63
          · have hk9 : so = 2 := by omega
            subst hk9
            refine lv_aload hx hb dX0_row_52 (lv_at hl 0 rfl) ?_
            refine lv_iload_n hx hb dX0_row_54 rfl (lv_at hl 3 rfl) ?_
            refine lv_iload_n hx hb dX0_row_55 rfl (lv_at hl 4 rfl) ?_
            refine g_xr (vx_runSX (As := [.int (zI 2), .int (zI (n1 : Int))]) (rest := [.ref (sh v1)]) ⟨hx, hb, hml, hown, hts⟩ (metX0_newRow_2 (n := n1) (by omega)) (vx_cwSW 2 hts (lw_SW q527 q528 q87 q529) rfl rfl rfl (by decide +kernel) ⟨Nat.le_of_ble_eq_true rfl, Nat.le_of_ble_eq_true rfl⟩) (g_preS hG) rfl rfl hl.1 rfl (lv_room (Nat.le_of_ble_eq_true rfl)) dX0_row_56 ⟨by show _ ≤ 8; omega, by show _ ≤ 400; omega⟩) hG (fun E9 ce9 q9 Fx_44 Vx_45 ws_ H locs hpx hG hce => ?_) (fun ro F_42 V_43 ws_ H locs hp hG => ?_)
            · exact hpx.elim
            obtain ⟨rfl, rfl, ar, rfl⟩ := hp
            have hG : gW X F V ((ro, oB 7 [.ref ar]) :: (ar, rwE X 2 n1 (fun _ => 0)) :: Z) s H locs := hG
            obtain ⟨G1, hle_G1, hro, hG⟩ := hG.freeze
            have hG : gW X G1 V ((ar, rwE X 2 n1 (fun _ => 0)) :: Z) s _ _ := hG
            have hG := hG.toV (40 + v1)
            have hx0 : (va_up V (40 + v1) (some (ar, rwE X 2 n1 (fun _ => 0)))) 0 = some (x, oB 0 [.ref sa, .ref rf, .ref tr, .ref kl, .ref wa, va_rf im, .int (zI (aFa a))]) := (vun (by omega)).trans hx0
            have hx2 : (va_up V (40 + v1) (some (ar, rwE X 2 n1 (fun _ => 0)))) 1 = some (rf, aI (gT X 0) 8 gr9) := (vun (by omega)).trans hx2
            have hAr : (va_up V (40 + v1) (some (ar, rwE X 2 n1 (fun _ => 0)))) (40 + v1) = some (ar, rwE X 2 n1 (fun _ => 0)) := vus
            have hG : gW X G1 (va_up V (40 + v1) (some (ar, rwE X 2 n1 (fun _ => 0)))) (Z) s _ _ := hG
            obtain ⟨h0, hsv⟩ := xSh.any (hx7 v1 (by omega))
            have hsv : (va_up V (40 + v1) (some (ar, rwE X 2 n1 (fun _ => 0)))) (20 + v1) = some (sh v1, oB 3 [h0]) := (vun (by omega)).trans hsv
            refine g_putV (ci := 3) hx hb hts in_X3 tyX3 tyX3_ok nmX3 hown hG hsv rfl 0 (Nat.le_of_ble_eq_true rfl) (hts _ q380) (fun _ h9 => h9) rfl (tyX3_ok 0 (Nat.le_of_ble_eq_true rfl)) rfl rfl (Nat.le_of_ble_eq_true rfl) dX0_row_59 (fun H locs (hG : gW X G1 (va_up (va_up V (40 + v1) (some (ar, rwE X 2 n1 (fun _ => 0)))) (20 + v1) (some ((sh v1), oB 3 [.ref ro]))) (Z) s H locs) => ?_)
            have hx0 : (va_up (va_up V (40 + v1) (some (ar, rwE X 2 n1 (fun _ => 0)))) (20 + v1) (some ((sh v1), oB 3 [.ref ro]))) 0 = some (x, oB 0 [.ref sa, .ref rf, .ref tr, .ref kl, .ref wa, va_rf im, .int (zI (aFa a))]) := (vun (by omega)).trans hx0
            have hx2 : (va_up (va_up V (40 + v1) (some (ar, rwE X 2 n1 (fun _ => 0)))) (20 + v1) (some ((sh v1), oB 3 [.ref ro]))) 1 = some (rf, aI (gT X 0) 8 gr9) := (vun (by omega)).trans hx2
            have hAr : (va_up (va_up V (40 + v1) (some (ar, rwE X 2 n1 (fun _ => 0)))) (20 + v1) (some ((sh v1), oB 3 [.ref ro]))) (40 + v1) = some (ar, rwE X 2 n1 (fun _ => 0)) := (vun (by omega)).trans hAr
            have hsv : (va_up (va_up V (40 + v1) (some (ar, rwE X 2 n1 (fun _ => 0)))) (20 + v1) (some ((sh v1), oB 3 [.ref ro]))) (20 + v1) = some ((sh v1), oB 3 [.ref ro]) := vus
            refine lv_iconst (v := zI 1) hx hb dX0_row_62 (by decide +kernel) ?_
            have hS1 := (hS.mono hle_G1).setSh (i := v1) (U := (va_up (va_up V (40 + v1) (some (ar, rwE X 2 n1 (fun _ => 0)))) (20 + v1) (some ((sh v1), oB 3 [.ref ro])))) (y := some (.inr (2, n1, fun _ => 0))) (by omega) (fun r9 h1 h2 => (va_up_ne _ _ h1).trans (va_up_ne _ _ h2)) ⟨ro, ar, hsv, hro, hAr, fun j hj => rfl⟩
            refine vx_ret ?_
            exact g_iret hx hb hr hlocks hG (by have e9 : opRow a (v1 : Int) 2 (n1 : Int) = (1, aSet a v1 (some (.inr (2, n1, fun _ => 0)))) := (by unfold opRow; rw [if_neg (by omega), if_neg (by omega), if_neg (by omega), if_neg (by omega)]; rfl); rw [e9]; exact ⟨hle_G1, rfl, (hS1).ex, rfl⟩) ⟨by show _ ≤ 8; omega, by show _ ≤ 400; omega⟩ dX0_row_63
          · have hk9 : so = 3 := by omega
            subst hk9
            refine lv_aload hx hb dX0_row_52 (lv_at hl 0 rfl) ?_
            refine lv_iload_n hx hb dX0_row_54 rfl (lv_at hl 3 rfl) ?_
            refine lv_iload_n hx hb dX0_row_55 rfl (lv_at hl 4 rfl) ?_
            refine g_xr (vx_runSX (As := [.int (zI 3), .int (zI (n1 : Int))]) (rest := [.ref (sh v1)]) ⟨hx, hb, hml, hown, hts⟩ (metX0_newRow_3 (n := n1) (by omega)) (vx_cwSW 2 hts (lw_SW q527 q528 q87 q529) rfl rfl rfl (by decide +kernel) ⟨Nat.le_of_ble_eq_true rfl, Nat.le_of_ble_eq_true rfl⟩) (g_preS hG) rfl rfl hl.1 rfl (lv_room (Nat.le_of_ble_eq_true rfl)) dX0_row_56 ⟨by show _ ≤ 8; omega, by show _ ≤ 400; omega⟩) hG (fun E9 ce9 q9 Fx_48 Vx_49 ws_ H locs hpx hG hce => ?_) (fun ro F_46 V_47 ws_ H locs hp hG => ?_)
            · exact hpx.elim
            obtain ⟨rfl, rfl, ar, rfl⟩ := hp
            have hG : gW X F V ((ro, oB 8 [.ref ar]) :: (ar, rwE X 3 n1 (fun _ => 0)) :: Z) s H locs := hG
            obtain ⟨G1, hle_G1, hro, hG⟩ := hG.freeze
            have hG : gW X G1 V ((ar, rwE X 3 n1 (fun _ => 0)) :: Z) s _ _ := hG
            have hG := hG.toV (40 + v1)
            have hx0 : (va_up V (40 + v1) (some (ar, rwE X 3 n1 (fun _ => 0)))) 0 = some (x, oB 0 [.ref sa, .ref rf, .ref tr, .ref kl, .ref wa, va_rf im, .int (zI (aFa a))]) := (vun (by omega)).trans hx0
            have hx2 : (va_up V (40 + v1) (some (ar, rwE X 3 n1 (fun _ => 0)))) 1 = some (rf, aI (gT X 0) 8 gr9) := (vun (by omega)).trans hx2
            have hAr : (va_up V (40 + v1) (some (ar, rwE X 3 n1 (fun _ => 0)))) (40 + v1) = some (ar, rwE X 3 n1 (fun _ => 0)) := vus
            have hG : gW X G1 (va_up V (40 + v1) (some (ar, rwE X 3 n1 (fun _ => 0)))) (Z) s _ _ := hG
            obtain ⟨h0, hsv⟩ := xSh.any (hx7 v1 (by omega))
            have hsv : (va_up V (40 + v1) (some (ar, rwE X 3 n1 (fun _ => 0)))) (20 + v1) = some (sh v1, oB 3 [h0]) := (vun (by omega)).trans hsv
            refine g_putV (ci := 3) hx hb hts in_X3 tyX3 tyX3_ok nmX3 hown hG hsv rfl 0 (Nat.le_of_ble_eq_true rfl) (hts _ q380) (fun _ h9 => h9) rfl (tyX3_ok 0 (Nat.le_of_ble_eq_true rfl)) rfl rfl (Nat.le_of_ble_eq_true rfl) dX0_row_59 (fun H locs (hG : gW X G1 (va_up (va_up V (40 + v1) (some (ar, rwE X 3 n1 (fun _ => 0)))) (20 + v1) (some ((sh v1), oB 3 [.ref ro]))) (Z) s H locs) => ?_)
            have hx0 : (va_up (va_up V (40 + v1) (some (ar, rwE X 3 n1 (fun _ => 0)))) (20 + v1) (some ((sh v1), oB 3 [.ref ro]))) 0 = some (x, oB 0 [.ref sa, .ref rf, .ref tr, .ref kl, .ref wa, va_rf im, .int (zI (aFa a))]) := (vun (by omega)).trans hx0
            have hx2 : (va_up (va_up V (40 + v1) (some (ar, rwE X 3 n1 (fun _ => 0)))) (20 + v1) (some ((sh v1), oB 3 [.ref ro]))) 1 = some (rf, aI (gT X 0) 8 gr9) := (vun (by omega)).trans hx2
            have hAr : (va_up (va_up V (40 + v1) (some (ar, rwE X 3 n1 (fun _ => 0)))) (20 + v1) (some ((sh v1), oB 3 [.ref ro]))) (40 + v1) = some (ar, rwE X 3 n1 (fun _ => 0)) := (vun (by omega)).trans hAr
            have hsv : (va_up (va_up V (40 + v1) (some (ar, rwE X 3 n1 (fun _ => 0)))) (20 + v1) (some ((sh v1), oB 3 [.ref ro]))) (20 + v1) = some ((sh v1), oB 3 [.ref ro]) := vus
            refine lv_iconst (v := zI 1) hx hb dX0_row_62 (by decide +kernel) ?_
            have hS1 := (hS.mono hle_G1).setSh (i := v1) (U := (va_up (va_up V (40 + v1) (some (ar, rwE X 3 n1 (fun _ => 0)))) (20 + v1) (some ((sh v1), oB 3 [.ref ro])))) (y := some (.inr (3, n1, fun _ => 0))) (by omega) (fun r9 h1 h2 => (va_up_ne _ _ h1).trans (va_up_ne _ _ h2)) ⟨ro, ar, hsv, hro, hAr, fun j hj => rfl⟩
            refine vx_ret ?_
            exact g_iret hx hb hr hlocks hG (by have e9 : opRow a (v1 : Int) 3 (n1 : Int) = (1, aSet a v1 (some (.inr (3, n1, fun _ => 0)))) := (by unfold opRow; rw [if_neg (by omega), if_neg (by omega), if_neg (by omega), if_neg (by omega)]; rfl); rw [e9]; exact ⟨hle_G1, rfl, (hS1).ex, rfl⟩) ⟨by show _ ≤ 8; omega, by show _ ≤ 400; omega⟩ dX0_row_63
      · refine lv_iload_n hx hb dX0_row_21 rfl (lv_at hl 3 rfl) ?_
        refine g_i2l hx hb dX0_row_22 (by omega) ?_
        refine lv_lconst (v := zL 0) hx hb dX0_row_23 (by decide +kernel) ?_
        refine lv_ldc2 (v := 3) hx hb hown (hts _ q523) dX0_row_24 ?_
        refine g_topv (y := .long (zL 3)) (congrArg Value.long (by decide +kernel)) ?_
        refine g_ci (va_runS (As := [.long (zL so), .long (zL 0), .long (zL 3)]) (rest := []) ⟨hx, hb, hml, hown, hts⟩ (metX0_in (a9 := so) (b9 := 0) (c9 := 3) (by omega)) (va_cwS 3 hts (lw_S q524 q525 q87 q526) rfl rfl rfl (by decide +kernel) ⟨Nat.le_of_ble_eq_true rfl, Nat.le_of_ble_eq_true rfl⟩) (g_preS hG) rfl rfl hl.1 rfl (lv_room (Nat.le_of_ble_eq_true rfl)) dX0_row_27 ⟨by show _ ≤ 8; omega, by show _ ≤ 400; omega⟩) hG (fun r_50 F_51 V_52 ws_ H locs hp hG => ?_)
        obtain ⟨rfl, rfl, rfl, rfl⟩ := hp
        have hG : gW X F V (Z) s H locs := hG
        refine g_topz (y := 0) (by rw [decide_eq_false (by omega)]; rfl) ?_
        refine lv_bipush (v := zI (-6)) hx hb dX0_row_30 (by decide +kernel) ?_
        refine g_xv (vx_runS (As := [.int (zI 0), .int (zI (-6))]) (rest := []) ⟨hx, hb, hml, hown, hts⟩ (metX0_need_f (k := 6)) (va_cwS 2 hts (lw_S q520 q521 q87 q522) rfl rfl rfl (by decide +kernel) ⟨Nat.le_of_ble_eq_true rfl, Nat.le_of_ble_eq_true rfl⟩) (g_preS hG) rfl rfl hl.1 rfl (lv_room (Nat.le_of_ble_eq_true rfl)) dX0_row_32 ⟨by show _ ≤ 8; omega, by show _ ≤ 400; omega⟩) hG (fun E9 ce9 q9 Fx_56 Vx_57 ws_ H locs hpx hG hce => ?_) (fun F_54 V_55 ws_ H locs hp hG => ?_)
        · obtain ⟨rfl, hle_Fx_56, hq9, rfl, rfl⟩ := hpx
          have hG : gW X Fx_56 V (Z) s H locs := hG
          refine g_catch (name := "LineRemarks$Refused") hown htab [] ⟨0, 63, 64, 21⟩ [] rfl (fun z9 hz9 => absurd hz9 List.not_mem_nil) (by decide) (by decide) (hts _ q410) (hG.1.2.1.1 _ qn498) hce ?_
          refine lv_astore (lv' := [(4, .ref q9), (0, .ref x), (1, .int (zI (v1 : Int))), (2, .int (zI so)), (3, .int (zI n))]) hx hb dX0_row_64 hl (by decide) rfl (fun ls hl => ?_)
          refine lv_aload_n hx hb dX0_row_66 rfl (lv_at hl 1 rfl) ?_
          refine lv_aload hx hb dX0_row_67 (lv_at hl 0 rfl) ?_
          refine g_ci (va_runV (As := [.ref q9]) (rest := []) ⟨hx, hb, hml, hown, hts⟩ (metX0_refused (k := 6) (hS.mono hle_Fx_56) hA hq9 (by decide)) (cwV 1 hts (lw_V q589 q591 qs2 q87 q592) rfl rfl rfl (by decide +kernel) ⟨Nat.le_of_ble_eq_true rfl, Nat.le_of_ble_eq_true rfl⟩) (g_preV hG (g_recv hG (hG.vo hx0) (ci := 0) rfl)) rfl rfl hl.1 rfl (lv_room (Nat.le_of_ble_eq_true rfl)) dX0_row_69 ⟨by show _ ≤ 8; omega, by show _ ≤ 400; omega⟩) hG (fun r_58 F_59 V_60 ws_ H locs hp hG => ?_)
          obtain ⟨rfl, rfl, hS9, rfl⟩ := hp
          have hG : gW X Fx_56 V_60 (Z) s H locs := hG
          refine vx_ret ?_
          exact g_iret hx hb hr hlocks hG (by have e9 : opRow a (v1 : Int) so n = aNoR a 6 := (by unfold opRow; rw [if_neg (by omega), if_neg (by omega), if_pos (by omega)]); rw [e9]; exact ⟨hle_Fx_56, rfl, hS9.ex, rfl⟩) ⟨by show _ ≤ 8; omega, by show _ ≤ 400; omega⟩ dX0_row_72
        exact hp.elim
  · refine g_xr (vx_runVX (As := [.int (zI v)]) (rest := []) ⟨hx, hb, hml, hown, hts⟩ (metX0_shelf_f hS hA hst (by omega)) (vx_cwVW 1 hts (lw_VW q411 q413 qs0 q87 q414) rfl rfl rfl (by decide +kernel) ⟨Nat.le_of_ble_eq_true rfl, Nat.le_of_ble_eq_true rfl⟩) (g_preV hG (g_recv hG (hG.vo hx0) (ci := 0) rfl)) rfl rfl hl.1 rfl (lv_room (Nat.le_of_ble_eq_true rfl)) dX0_row_2 ⟨by show _ ≤ 8; omega, by show _ ≤ 400; omega⟩) hG (fun E9 ce9 q9 Fx_64 Vx_65 ws_ H locs hpx hG hce => ?_) (fun r_61 F_62 V_63 ws_ H locs hp hG => ?_)
    · obtain ⟨rfl, hle_Fx_64, hq9, rfl, rfl⟩ := hpx
      have hG : gW X Fx_64 V (Z) s H locs := hG
      refine g_catch (name := "LineRemarks$Refused") hown htab [] ⟨0, 63, 64, 21⟩ [] rfl (fun z9 hz9 => absurd hz9 List.not_mem_nil) (by decide) (by decide) (hts _ q410) (hG.1.2.1.1 _ qn498) hce ?_
      refine lv_astore (lv' := [(4, .ref q9), (0, .ref x), (1, .int (zI v)), (2, .int (zI so)), (3, .int (zI n))]) hx hb dX0_row_64 hl (by decide) rfl (fun ls hl => ?_)
      refine lv_aload_n hx hb dX0_row_66 rfl (lv_at hl 1 rfl) ?_
      refine lv_aload hx hb dX0_row_67 (lv_at hl 0 rfl) ?_
      refine g_ci (va_runV (As := [.ref q9]) (rest := []) ⟨hx, hb, hml, hown, hts⟩ (metX0_refused (k := 1) (hS.mono hle_Fx_64) hA hq9 (by decide)) (cwV 1 hts (lw_V q589 q591 qs2 q87 q592) rfl rfl rfl (by decide +kernel) ⟨Nat.le_of_ble_eq_true rfl, Nat.le_of_ble_eq_true rfl⟩) (g_preV hG (g_recv hG (hG.vo hx0) (ci := 0) rfl)) rfl rfl hl.1 rfl (lv_room (Nat.le_of_ble_eq_true rfl)) dX0_row_69 ⟨by show _ ≤ 8; omega, by show _ ≤ 400; omega⟩) hG (fun r_66 F_67 V_68 ws_ H locs hp hG => ?_)
      obtain ⟨rfl, rfl, hS9, rfl⟩ := hp
      have hG : gW X Fx_64 V_68 (Z) s H locs := hG
      refine vx_ret ?_
      exact g_iret hx hb hr hlocks hG (by have e9 : opRow a v so n = aNoR a 1 := (by unfold opRow; rw [if_pos (by omega)]); rw [e9]; exact ⟨hle_Fx_64, rfl, hS9.ex, rfl⟩) ⟨by show _ ≤ 8; omega, by show _ ≤ 400; omega⟩ dX0_row_72
    exact hp.elim

