set_option maxRecDepth 100000
set_option maxHeartbeats 4000000 in
theorem metX0_lines {l : Launch} {X : gX} {F : gF} {V : gV} {Z : va_W} {x sa rf tr tb kl wa rv rk st : Nat} {sh ra la ma : Nat → Nat} {im : Option Nat} {a : aS} (hS : xS X F V x a sa rf tr tb kl wa rv rk st sh ra la ma im) (hA : aOK a) (hst : l.stackTraces = false) {v : Int} (hrv : (-2147483648 ≤ v ∧ v < 2147483648)) : vx_Met l yX0_lines (wsW_ yX0_lines cX0_lines 3 (some FieldType.int) [(0, 9, 10, 21)]) ({ frames := 6, cells := 8, slots := 400, locals := 131 }) (gP X F V (Z) [.ref x, .int (zI v)]) (gQi X (fun u G U ws => gLe F G ∧ u = zI (opLines a v).1 ∧ xX X G U x (opLines a v).2 ∧ Z = ws)) (gXc X (fun _ _ _ _ _ => False)) 8 400 (gA X) := by
  refine vx_Met.gH (by decide) (Nat.le_of_ble_eq_true rfl) ?_
  intro p e s m below meth c ls hx hb hr hts hown hlocks hml hin htab hG hl
  have hl : lv_has ls 3 [(0, .ref x), (1, .int (zI v))] := hl
  have hSA := hS
  obtain ⟨hx0, ⟨fs9, hx1, hsh⟩, ⟨gr9, hx2, hgr⟩, hx3, hx4, hW, hx6, hx7⟩ := hSA
  have hSA := hS
  have hK := hA.w
  have hNN := hK.n
  have hMM := hK.m
  obtain ⟨hw0, ⟨fR, hw1, hwR⟩, ⟨fM, hw2, hwM⟩, ⟨fS, hw3, hwS⟩, hR, hMk⟩ := id hW
  have hw0 : V 4 = some (wa, oB 2 [.int (zI (wN (aWd a) : Int)), .int (zI (wM (aWd a) : Int)), .int (zI (wRun (aWd a) : Int)), .int (zI (wNeed (aWd a) : Int)), .int (zI (wMar (aWd a) : Int)), .int (wSeed (aWd a)), .ref rv, .ref rk, .ref st]) := hw0
  have hw1 : V 5 = some (rv, aR (gT X 7) 16 fR) := hw1
  have hw2 : V 6 = some (rk, aR (gT X 8) 16 fM) := hw2
  have hw3 : V 7 = some (st, aI (gT X 5) 16 fS) := hw3
  refine lv_aload_n hx hb dX0_lines_0 rfl (lv_at hl 0 rfl) ?_
  refine lv_iload_n hx hb dX0_lines_1 rfl (lv_at hl 1 rfl) ?_
  by_cases hcv : 0 ≤ v ∧ v < wN (aWd a)
  · obtain ⟨v1, rfl⟩ : ∃ z : Nat, v = (z : Int) := ⟨v.toNat, by omega⟩
    refine g_cr (va_runV (As := [.int (zI (v1 : Int))]) (rest := []) ⟨hx, hb, hml, hown, hts⟩ (metX0_revision_t (r := v1) hS hA (by omega)) (cwV 1 hts (lw_V q737 q739 qs4 q87 q740) rfl rfl rfl (by decide +kernel) ⟨Nat.le_of_ble_eq_true rfl, Nat.le_of_ble_eq_true rfl⟩) (g_preV hG (g_recv hG (hG.vo hx0) (ci := 0) rfl)) rfl rfl hl.1 rfl (lv_room (Nat.le_of_ble_eq_true rfl)) dX0_lines_2 ⟨by show _ ≤ 8; omega, by show _ ≤ 400; omega⟩) hG (fun r_1 F_2 V_3 ws_ H locs hp hG => ?_)
    obtain ⟨rfl, rfl, rfl, rfl⟩ := hp
    have hG : gW X F V (Z) s H locs := hG
    have hlnv1 : aLn a ((v1 : Nat) : Int) = ((wTx (aWd a) v1).length : Nat) := rfl
    have h24v1 := (hK.tx (r := v1) (by omega)).1
    have htx := (hR v1 (by omega)).2
    obtain ⟨gt, hgt1, hgt2, hgt3⟩ := htx
    have hgtl := hgt2
    obtain ⟨vc_4, hrvc_4, hgvc_4⟩ := hG.rv (hR v1 (by omega)).1
    refine g_get (ci := 12) hx hb hts in_X14 hown hG hrvc_4 rfl 2 (Nat.le_of_ble_eq_true rfl) (hts _ q1728) (fun _ h9 => h9) rfl dX0_lines_5 ?_
    refine g_alen hx hb hG 6 rfl (hG.fz hgt1) dX0_lines_8 ?_
    refine vx_ret ?_
    exact g_iret hx hb hr hlocks hG (by have e9 : opLines a (v1 : Int) = (((wTx (aWd a) v1).length : Int), a) := (by unfold opLines; rw [if_pos (by omega)]; first | done | rfl); rw [e9]; exact ⟨(gLe.rfl (V := V)), rfl, (hS).ex, rfl⟩) ⟨by show _ ≤ 8; omega, by show _ ≤ 400; omega⟩ dX0_lines_9
  · refine g_xr (vx_runV (As := [.int (zI v)]) (rest := []) ⟨hx, hb, hml, hown, hts⟩ (metX0_revision_f hS hA (by omega)) (cwV 1 hts (lw_V q737 q739 qs4 q87 q740) rfl rfl rfl (by decide +kernel) ⟨Nat.le_of_ble_eq_true rfl, Nat.le_of_ble_eq_true rfl⟩) (g_preV hG (g_recv hG (hG.vo hx0) (ci := 0) rfl)) rfl rfl hl.1 rfl (lv_room (Nat.le_of_ble_eq_true rfl)) dX0_lines_2 ⟨by show _ ≤ 8; omega, by show _ ≤ 400; omega⟩) hG (fun E9 ce9 q9 Fx_8 Vx_9 ws_ H locs hpx hG hce => ?_) (fun r_5 F_6 V_7 ws_ H locs hp hG => ?_)
    · obtain ⟨rfl, hle_Fx_8, hq9, rfl, rfl⟩ := hpx
      have hG : gW X Fx_8 V (Z) s H locs := hG
      refine g_catch (name := "LineRemarks$Refused") hown htab [] ⟨0, 9, 10, 21⟩ [] rfl (fun z9 hz9 => absurd hz9 List.not_mem_nil) (by decide) (by decide) (hts _ q410) (hG.1.2.1.1 _ qn498) hce ?_
      refine lv_astore_n (lv' := [(2, .ref q9), (0, .ref x), (1, .int (zI v))]) hx hb dX0_lines_10 rfl hl (by decide) rfl (fun ls hl => ?_)
      refine lv_aload_n hx hb dX0_lines_11 rfl (lv_at hl 1 rfl) ?_
      refine lv_aload_n hx hb dX0_lines_12 rfl (lv_at hl 0 rfl) ?_
      refine g_ci (va_runV (As := [.ref q9]) (rest := []) ⟨hx, hb, hml, hown, hts⟩ (metX0_refused (k := 1) (hS.mono hle_Fx_8) hA hq9 (by decide)) (cwV 1 hts (lw_V q589 q591 qs2 q87 q592) rfl rfl rfl (by decide +kernel) ⟨Nat.le_of_ble_eq_true rfl, Nat.le_of_ble_eq_true rfl⟩) (g_preV hG (g_recv hG (hG.vo hx0) (ci := 0) rfl)) rfl rfl hl.1 rfl (lv_room (Nat.le_of_ble_eq_true rfl)) dX0_lines_13 ⟨by show _ ≤ 8; omega, by show _ ≤ 400; omega⟩) hG (fun r_10 F_11 V_12 ws_ H locs hp hG => ?_)
      obtain ⟨rfl, rfl, hS9, rfl⟩ := hp
      have hG : gW X Fx_8 V_12 (Z) s H locs := hG
      refine vx_ret ?_
      exact g_iret hx hb hr hlocks hG (by have e9 : opLines a v = aNoR a 1 := (by unfold opLines; rw [if_neg (by omega)]; first | done | rfl); rw [e9]; exact ⟨hle_Fx_8, rfl, hS9.ex, rfl⟩) ⟨by show _ ≤ 8; omega, by show _ ≤ 400; omega⟩ dX0_lines_16
    exact hp.elim

set_option maxHeartbeats 4000000 in
theorem metX0_former {l : Launch} {X : gX} {F : gF} {V : gV} {Z : va_W} {x sa rf tr tb kl wa rv rk st : Nat} {sh ra la ma : Nat → Nat} {im : Option Nat} {a : aS} (hS : xS X F V x a sa rf tr tb kl wa rv rk st sh ra la ma im) (hA : aOK a) (hst : l.stackTraces = false) {v : Int} (hrv : (-2147483648 ≤ v ∧ v < 2147483648)) : vx_Met l yX0_former (wsW_ yX0_former cX0_former 3 (some FieldType.int) [(0, 24, 25, 21)]) ({ frames := 6, cells := 8, slots := 400, locals := 131 }) (gP X F V (Z) [.ref x, .int (zI v)]) (gQi X (fun u G U ws => gLe F G ∧ u = zI (opFormer a v).1 ∧ xX X G U x (opFormer a v).2 ∧ Z = ws)) (gXc X (fun _ _ _ _ _ => False)) 8 400 (gA X) := by
  refine vx_Met.gH (by decide) (Nat.le_of_ble_eq_true rfl) ?_
  intro p e s m below meth c ls hx hb hr hts hown hlocks hml hin htab hG hl
  have hl : lv_has ls 3 [(0, .ref x), (1, .int (zI v))] := hl
  have hSA := hS
  obtain ⟨hx0, ⟨fs9, hx1, hsh⟩, ⟨gr9, hx2, hgr⟩, hx3, hx4, hW, hx6, hx7⟩ := hSA
  have hSA := hS
  have hK := hA.w
  have hNN := hK.n
  have hMM := hK.m
  obtain ⟨hw0, ⟨fR, hw1, hwR⟩, ⟨fM, hw2, hwM⟩, ⟨fS, hw3, hwS⟩, hR, hMk⟩ := id hW
  have hw0 : V 4 = some (wa, oB 2 [.int (zI (wN (aWd a) : Int)), .int (zI (wM (aWd a) : Int)), .int (zI (wRun (aWd a) : Int)), .int (zI (wNeed (aWd a) : Int)), .int (zI (wMar (aWd a) : Int)), .int (wSeed (aWd a)), .ref rv, .ref rk, .ref st]) := hw0
  have hw1 : V 5 = some (rv, aR (gT X 7) 16 fR) := hw1
  have hw2 : V 6 = some (rk, aR (gT X 8) 16 fM) := hw2
  have hw3 : V 7 = some (st, aI (gT X 5) 16 fS) := hw3
  refine lv_aload_n hx hb dX0_former_0 rfl (lv_at hl 0 rfl) ?_
  refine lv_iload_n hx hb dX0_former_1 rfl (lv_at hl 1 rfl) ?_
  by_cases hcv : 0 ≤ v ∧ v < wN (aWd a)
  · obtain ⟨v1, rfl⟩ : ∃ z : Nat, v = (z : Int) := ⟨v.toNat, by omega⟩
    refine g_cr (va_runV (As := [.int (zI (v1 : Int))]) (rest := []) ⟨hx, hb, hml, hown, hts⟩ (metX0_revision_t (r := v1) hS hA (by omega)) (cwV 1 hts (lw_V q737 q739 qs4 q87 q740) rfl rfl rfl (by decide +kernel) ⟨Nat.le_of_ble_eq_true rfl, Nat.le_of_ble_eq_true rfl⟩) (g_preV hG (g_recv hG (hG.vo hx0) (ci := 0) rfl)) rfl rfl hl.1 rfl (lv_room (Nat.le_of_ble_eq_true rfl)) dX0_former_2 ⟨by show _ ≤ 8; omega, by show _ ≤ 400; omega⟩) hG (fun r_1 F_2 V_3 ws_ H locs hp hG => ?_)
    obtain ⟨rfl, rfl, rfl, rfl⟩ := hp
    have hG : gW X F V (Z) s H locs := hG
    have hlnv1 : aLn a ((v1 : Nat) : Int) = ((wTx (aWd a) v1).length : Nat) := rfl
    have h24v1 := (hK.tx (r := v1) (by omega)).1
    refine lv_astore_n (lv' := [(2, .ref (ra v1)), (0, .ref x), (1, .int (zI (v1 : Int)))]) hx hb dX0_former_5 rfl hl (by decide) rfl (fun ls hl => ?_)
    rcases ha : wFo (aWd a) v1 with _ | f
    · have hl : lv_has ls 3 [(2, .ref (ra v1)), (0, .ref x), (1, .int (zI (v1 : Int)))] := by exact hl
      have hRv := hR v1 (by omega)
      rw [ha] at hRv
      refine lv_aload_n hx hb dX0_former_6 rfl (lv_at hl 0 rfl) ?_
      obtain ⟨vc_4, hrvc_4, hgvc_4⟩ := hG.rv hRv.1
      refine g_get (ci := 12) hx hb hts in_X14 hown hG hrvc_4 rfl 1 (Nat.le_of_ble_eq_true rfl) (hts _ q1724) (fun _ h9 => h9) rfl dX0_former_7 ?_
      refine lv_ifnonnullN hx hb dX0_former_10 ?_
      refine lv_iconst (v := zI (-1)) hx hb dX0_former_13 (by decide +kernel) ?_
      refine lv_goto (tgt := 24) hx hb dX0_former_14 (by decide) ?_
      refine vx_ret ?_
      exact g_iret hx hb hr hlocks hG (by have e9 : opFormer a (v1 : Int) = (-1, a) := (by unfold opFormer; rw [if_pos (by omega)]; first | done | rw [show wFo (aWd a) ((v1 : Nat) : Int).toNat = none from ha]; rfl); rw [e9]; exact ⟨(gLe.rfl (V := V)), rfl, (hS).ex, rfl⟩) ⟨by show _ ≤ 8; omega, by show _ ≤ 400; omega⟩ dX0_former_24
    · have hfv := hK.fo v1 f ha
      have hRv := hR v1 (by omega)
      rw [ha] at hRv
      have hlnf : aLn a ((f : Nat) : Int) = ((wTx (aWd a) f).length : Nat) := rfl
      have h24f := (hK.tx (r := f) (by omega)).1
      refine lv_aload_n hx hb dX0_former_6 rfl (lv_at hl 0 rfl) ?_
      obtain ⟨vc_5, hrvc_5, hgvc_5⟩ := hG.rv hRv.1
      refine g_get (ci := 12) hx hb hts in_X14 hown hG hrvc_5 rfl 1 (Nat.le_of_ble_eq_true rfl) (hts _ q1724) (fun _ h9 => h9) rfl dX0_former_7 ?_
      refine lv_ifnonnull (tgt := 17) hx hb dX0_former_10 (by decide) ?_
      refine lv_aload_n hx hb dX0_former_17 rfl (lv_at hl 0 rfl) ?_
      obtain ⟨vc_6, hrvc_6, hgvc_6⟩ := hG.rv hRv.1
      refine g_get (ci := 12) hx hb hts in_X14 hown hG hrvc_6 rfl 1 (Nat.le_of_ble_eq_true rfl) (hts _ q1724) (fun _ h9 => h9) rfl dX0_former_18 ?_
      obtain ⟨vc_7, hrvc_7, hgvc_7⟩ := hG.rv (hR f (by omega)).1
      refine g_get (ci := 12) hx hb hts in_X14 hown hG hrvc_7 rfl 0 (Nat.le_of_ble_eq_true rfl) (hts _ q1721) (fun _ h9 => h9) rfl dX0_former_21 ?_
      refine vx_ret ?_
      exact g_iret hx hb hr hlocks hG (by have e9 : opFormer a (v1 : Int) = ((f : Int), a) := (by unfold opFormer; rw [if_pos (by omega)]; first | done | rw [show wFo (aWd a) ((v1 : Nat) : Int).toNat = some f from ha]; rfl); rw [e9]; exact ⟨(gLe.rfl (V := V)), rfl, (hS).ex, rfl⟩) ⟨by show _ ≤ 8; omega, by show _ ≤ 400; omega⟩ dX0_former_24
  · refine g_xr (vx_runV (As := [.int (zI v)]) (rest := []) ⟨hx, hb, hml, hown, hts⟩ (metX0_revision_f hS hA (by omega)) (cwV 1 hts (lw_V q737 q739 qs4 q87 q740) rfl rfl rfl (by decide +kernel) ⟨Nat.le_of_ble_eq_true rfl, Nat.le_of_ble_eq_true rfl⟩) (g_preV hG (g_recv hG (hG.vo hx0) (ci := 0) rfl)) rfl rfl hl.1 rfl (lv_room (Nat.le_of_ble_eq_true rfl)) dX0_former_2 ⟨by show _ ≤ 8; omega, by show _ ≤ 400; omega⟩) hG (fun E9 ce9 q9 Fx_11 Vx_12 ws_ H locs hpx hG hce => ?_) (fun r_8 F_9 V_10 ws_ H locs hp hG => ?_)
    · obtain ⟨rfl, hle_Fx_11, hq9, rfl, rfl⟩ := hpx
      have hG : gW X Fx_11 V (Z) s H locs := hG
      refine g_catch (name := "LineRemarks$Refused") hown htab [] ⟨0, 24, 25, 21⟩ [] rfl (fun z9 hz9 => absurd hz9 List.not_mem_nil) (by decide) (by decide) (hts _ q410) (hG.1.2.1.1 _ qn498) hce ?_
      refine lv_astore_n (lv' := [(2, .ref q9), (0, .ref x), (1, .int (zI v))]) hx hb dX0_former_25 rfl hl (by decide) rfl (fun ls hl => ?_)
      refine lv_aload_n hx hb dX0_former_26 rfl (lv_at hl 1 rfl) ?_
      refine lv_aload_n hx hb dX0_former_27 rfl (lv_at hl 0 rfl) ?_
      refine g_ci (va_runV (As := [.ref q9]) (rest := []) ⟨hx, hb, hml, hown, hts⟩ (metX0_refused (k := 1) (hS.mono hle_Fx_11) hA hq9 (by decide)) (cwV 1 hts (lw_V q589 q591 qs2 q87 q592) rfl rfl rfl (by decide +kernel) ⟨Nat.le_of_ble_eq_true rfl, Nat.le_of_ble_eq_true rfl⟩) (g_preV hG (g_recv hG (hG.vo hx0) (ci := 0) rfl)) rfl rfl hl.1 rfl (lv_room (Nat.le_of_ble_eq_true rfl)) dX0_former_28 ⟨by show _ ≤ 8; omega, by show _ ≤ 400; omega⟩) hG (fun r_13 F_14 V_15 ws_ H locs hp hG => ?_)
      obtain ⟨rfl, rfl, hS9, rfl⟩ := hp
      have hG : gW X Fx_11 V_15 (Z) s H locs := hG
      refine lv_bipush (v := zI 10) hx hb dX0_former_31 (by decide +kernel) ?_
      refine g_isub hx hb dX0_former_33 ?_
      refine vx_ret ?_
      exact g_iret hx hb hr hlocks hG (by have e9 : opFormer a v = aNoT a 1 := (by unfold opFormer; rw [if_neg (by omega)]; first | done | rfl); rw [e9]; exact ⟨hle_Fx_11, rfl, hS9.ex, rfl⟩) ⟨by show _ ≤ 8; omega, by show _ ≤ 400; omega⟩ dX0_former_34
    exact hp.elim

set_option maxHeartbeats 4000000 in
theorem metX13_letter {l : Launch} {X : gX} {F : gF} {V : gV} {Z : va_W} {b k : Nat} {cs : Ln} (hst : l.stackTraces = false) (hln9 : isLine X F b cs) (hk9 : k ≤ 8) : vx_Met l yX13_letter (wsW_ yX13_letter cX13_letter 3 (some FieldType.int) [(0, 6, 7, 19)]) ({ frames := 8, cells := 3, slots := 222, locals := 10248 }) (gP X F V (Z) [.ref b, .int (zI (k : Int))]) (gQi X (fun u G U ws => u = zI ((cs.getD k 0 : Nat) : Int) ∧ F = G ∧ V = U ∧ Z = ws)) (gXc X (fun _ _ _ _ _ => False)) 3 222 (gA X) := by
  refine vx_Met.gH (by decide) (Nat.le_of_ble_eq_true rfl) ?_
  intro p e s m below meth c ls hx hb hr hts hown hlocks hml hin htab hG hl
  have hl : lv_has ls 3 [(0, .ref b), (1, .int (zI (k : Int)))] := hl
  obtain ⟨b9, fl9, hb1, hb2, hb3, hb4, hb5⟩ := hln9
  by_cases hkl : k < cs.length
  · refine lv_aload_n hx hb dX13_letter_0 rfl (lv_at hl 0 rfl) ?_
    refine g_get (ci := 11) hx hb hts in_X13 hown hG (hG.fz hb1) rfl 0 (Nat.le_of_ble_eq_true rfl) (hts _ q865) (fun _ h9 => h9) rfl dX13_letter_1 ?_
    refine lv_iload_n hx hb dX13_letter_4 rfl (lv_at hl 1 rfl) ?_
    refine g_cald hx hb hG (hG.fz hb2) k ⟨rfl, by omega, by omega⟩ (v := zI (cs.getD k 0 : Nat)) (hb3 k hkl) dX13_letter_5 ?_
    refine vx_ret ?_
    exact g_iret hx hb hr hlocks hG (⟨rfl, rfl, rfl, rfl⟩) ⟨by omega, by omega⟩ dX13_letter_6
  · refine lv_aload_n hx hb dX13_letter_0 rfl (lv_at hl 0 rfl) ?_
    refine g_get (ci := 11) hx hb hts in_X13 hown hG (hG.fz hb1) rfl 0 (Nat.le_of_ble_eq_true rfl) (hts _ q865) (fun _ h9 => h9) rfl dX13_letter_1 ?_
    refine lv_iload_n hx hb dX13_letter_4 rfl (lv_at hl 1 rfl) ?_
    refine vx_caldZ hx hb hG.K (gone (hG.fz hb2)) 0 2 rfl rfl (vpout (by omega)) dX13_letter_5 (g_aioobe hx hst hts hG (hml.trans hl.1.symm).symm (by omega) (Nat.le_of_ble_eq_true rfl) (Nat.le_of_ble_eq_true rfl) ⟨Nat.le_of_ble_eq_true rfl, Nat.le_of_ble_eq_true rfl⟩ hlocks (fun H q9 ce9 hG hce => ?_))
    refine g_catch (name := "java/lang/ArrayIndexOutOfBoundsException") hown htab [] ⟨0, 6, 7, 19⟩ [] rfl (fun z9 hz9 => absurd hz9 List.not_mem_nil) (by decide) (by decide) (hts _ q1763) (hG.1.2.1.1 _ qn472) hce ?_
    refine lv_astore_n (lv' := [(2, .ref q9), (0, .ref b), (1, .int (zI (k : Int)))]) hx hb dX13_letter_7 rfl hl (by decide) rfl (fun ls hl => ?_)
    refine lv_iconst (v := zI 0) hx hb dX13_letter_8 (by decide +kernel) ?_
    refine vx_ret ?_
    exact g_iret hx hb hr hlocks hG (⟨by rw [List.getD_eq_getElem?_getD, List.getElem?_eq_none (by omega)]; rfl, rfl, rfl, rfl⟩) ⟨Nat.le_of_ble_eq_true rfl, Nat.le_of_ble_eq_true rfl⟩ dX13_letter_9

set_option maxHeartbeats 4000000 in
theorem metX0_letter {l : Launch} {X : gX} {F : gF} {V : gV} {Z : va_W} {x sa rf tr tb kl wa rv rk st : Nat} {sh ra la ma : Nat → Nat} {im : Option Nat} {a : aS} (hS : xS X F V x a sa rf tr tb kl wa rv rk st sh ra la ma im) (hA : aOK a) (hst : l.stackTraces = false) {v i k : Int} (hrv : (-2147483648 ≤ v ∧ v < 2147483648)) (hri : (-2147483648 ≤ i ∧ i < 2147483648)) (hrk : (-2147483648 ≤ k ∧ k < 2147483648)) : vx_Met l yX0_letter (wsW_ yX0_letter cX0_letter 5 (some FieldType.int) [(0, 37, 38, 21)]) ({ frames := 9, cells := 8, slots := 400, locals := 10270 }) (gP X F V (Z) [.ref x, .int (zI v), .int (zI i), .int (zI k)]) (gQi X (fun u G U ws => gLe F G ∧ u = zI (opLetter a v i k).1 ∧ xX X G U x (opLetter a v i k).2 ∧ Z = ws)) (gXc X (fun _ _ _ _ _ => False)) 8 400 (gA X) := by
  refine vx_Met.gH (by decide) (Nat.le_of_ble_eq_true rfl) ?_
  intro p e s m below meth c ls hx hb hr hts hown hlocks hml hin htab hG hl
  have hl : lv_has ls 5 [(0, .ref x), (1, .int (zI v)), (2, .int (zI i)), (3, .int (zI k))] := hl
  have hSA := hS
  obtain ⟨hx0, ⟨fs9, hx1, hsh⟩, ⟨gr9, hx2, hgr⟩, hx3, hx4, hW, hx6, hx7⟩ := hSA
  have hSA := hS
  have hK := hA.w
  have hNN := hK.n
  have hMM := hK.m
  obtain ⟨hw0, ⟨fR, hw1, hwR⟩, ⟨fM, hw2, hwM⟩, ⟨fS, hw3, hwS⟩, hR, hMk⟩ := id hW
  have hw0 : V 4 = some (wa, oB 2 [.int (zI (wN (aWd a) : Int)), .int (zI (wM (aWd a) : Int)), .int (zI (wRun (aWd a) : Int)), .int (zI (wNeed (aWd a) : Int)), .int (zI (wMar (aWd a) : Int)), .int (wSeed (aWd a)), .ref rv, .ref rk, .ref st]) := hw0
  have hw1 : V 5 = some (rv, aR (gT X 7) 16 fR) := hw1
  have hw2 : V 6 = some (rk, aR (gT X 8) 16 fM) := hw2
  have hw3 : V 7 = some (st, aI (gT X 5) 16 fS) := hw3
  refine lv_aload_n hx hb dX0_letter_0 rfl (lv_at hl 0 rfl) ?_
  refine lv_iload_n hx hb dX0_letter_1 rfl (lv_at hl 1 rfl) ?_
  by_cases hcv : 0 ≤ v ∧ v < wN (aWd a)
  · obtain ⟨v1, rfl⟩ : ∃ z : Nat, v = (z : Int) := ⟨v.toNat, by omega⟩
    refine g_cr (va_runV (As := [.int (zI (v1 : Int))]) (rest := []) ⟨hx, hb, hml, hown, hts⟩ (metX0_revision_t (r := v1) hS hA (by omega)) (cwV 1 hts (lw_V q737 q739 qs4 q87 q740) rfl rfl rfl (by decide +kernel) ⟨Nat.le_of_ble_eq_true rfl, Nat.le_of_ble_eq_true rfl⟩) (g_preV hG (g_recv hG (hG.vo hx0) (ci := 0) rfl)) rfl rfl hl.1 rfl (lv_room (Nat.le_of_ble_eq_true rfl)) dX0_letter_2 ⟨by show _ ≤ 8; omega, by show _ ≤ 400; omega⟩) hG (fun r_1 F_2 V_3 ws_ H locs hp hG => ?_)
    obtain ⟨rfl, rfl, rfl, rfl⟩ := hp
    have hG : gW X F V (Z) s H locs := hG
    have hlnv1 : aLn a ((v1 : Nat) : Int) = ((wTx (aWd a) v1).length : Nat) := rfl
    have h24v1 := (hK.tx (r := v1) (by omega)).1
    refine lv_astore (lv' := [(4, .ref (ra v1)), (0, .ref x), (1, .int (zI (v1 : Int))), (2, .int (zI i)), (3, .int (zI k))]) hx hb dX0_letter_5 hl (by decide) rfl (fun ls hl => ?_)
    refine lv_aload hx hb dX0_letter_7 (lv_at hl 0 rfl) ?_
    refine lv_iload_n hx hb dX0_letter_9 rfl (lv_at hl 3 rfl) ?_
    by_cases hci : 0 ≤ i ∧ i < ((wTx (aWd a) v1).length : Int)
    · refine g_cv (va_runS (As := [.ref (ra v1), .int (zI i)]) (rest := []) ⟨hx, hb, hml, hown, hts⟩ (metX0_mustLine_t (hR v1 (by omega)).1 (hR v1 (by omega)).2 (by omega) (by omega)) (va_cwS 2 hts (lw_S q1751 q1752 q87 q1753) rfl rfl rfl (by decide +kernel) ⟨Nat.le_of_ble_eq_true rfl, Nat.le_of_ble_eq_true rfl⟩) (g_preS hG) rfl rfl hl.1 rfl (lv_room (Nat.le_of_ble_eq_true rfl)) dX0_letter_10 ⟨by show _ ≤ 8; omega, by show _ ≤ 400; omega⟩) hG (fun F_5 V_6 ws_ H locs hp hG => ?_)
      obtain ⟨rfl, rfl, rfl⟩ := hp
      have hG : gW X F V (Z) s H locs := hG
      obtain ⟨i1, rfl⟩ : ∃ z : Nat, i = (z : Int) := ⟨i.toNat, by omega⟩
      refine lv_iload_n hx hb dX0_letter_13 rfl (lv_at hl 4 rfl) ?_
      refine g_i2l hx hb dX0_letter_14 (by omega) ?_
      refine lv_lconst (v := zL 0) hx hb dX0_letter_15 (by decide +kernel) ?_
      refine lv_ldc2 (v := 8) hx hb hown (hts _ q1758) dX0_letter_16 ?_
      refine g_topv (y := .long (zL 8)) (congrArg Value.long (by decide +kernel)) ?_
      by_cases hnk : 0 ≤ k ∧ k ≤ 8
      · refine g_ci (va_runS (As := [.long (zL k), .long (zL 0), .long (zL 8)]) (rest := []) ⟨hx, hb, hml, hown, hts⟩ (metX0_in (a9 := k) (b9 := 0) (c9 := 8) (by omega)) (va_cwS 3 hts (lw_S q524 q525 q87 q526) rfl rfl rfl (by decide +kernel) ⟨Nat.le_of_ble_eq_true rfl, Nat.le_of_ble_eq_true rfl⟩) (g_preS hG) rfl rfl hl.1 rfl (lv_room (Nat.le_of_ble_eq_true rfl)) dX0_letter_19 ⟨by show _ ≤ 8; omega, by show _ ≤ 400; omega⟩) hG (fun r_7 F_8 V_9 ws_ H locs hp hG => ?_)
        obtain ⟨rfl, rfl, rfl, rfl⟩ := hp
        have hG : gW X F V (Z) s H locs := hG
        refine g_topz (y := 1) (by rw [decide_eq_true (by omega)]; rfl) ?_
        refine lv_bipush (v := zI (-5)) hx hb dX0_letter_22 (by decide +kernel) ?_
        refine g_cv (va_runS (As := [.int (zI 1), .int (zI (-5))]) (rest := []) ⟨hx, hb, hml, hown, hts⟩ (metX0_need_t (b := 1) (by decide)) (va_cwS 2 hts (lw_S q520 q521 q87 q522) rfl rfl rfl (by decide +kernel) ⟨Nat.le_of_ble_eq_true rfl, Nat.le_of_ble_eq_true rfl⟩) (g_preS hG) rfl rfl hl.1 rfl (lv_room (Nat.le_of_ble_eq_true rfl)) dX0_letter_24 ⟨by show _ ≤ 8; omega, by show _ ≤ 400; omega⟩) hG (fun F_11 V_12 ws_ H locs hp hG => ?_)
        obtain ⟨rfl, rfl, rfl⟩ := hp
        have hG : gW X F V (Z) s H locs := hG
        obtain ⟨k1, rfl⟩ : ∃ z : Nat, k = (z : Int) := ⟨k.toNat, by omega⟩
        refine lv_aload hx hb dX0_letter_27 (lv_at hl 0 rfl) ?_
        refine lv_iload_n hx hb dX0_letter_29 rfl (lv_at hl 3 rfl) ?_
        refine g_cq (va_runV (As := [.int (zI (i1 : Int))]) (rest := []) ⟨hx, hb, hml, hown, hts⟩ (metX14_at (hR v1 (by omega)).1 (hR v1 (by omega)).2 (by omega)) (cwV 1 hts (lw_V q1754 q1755 q1756 q140 q1757) rfl rfl rfl (by decide +kernel) ⟨Nat.le_of_ble_eq_true rfl, Nat.le_of_ble_eq_true rfl⟩) (g_preV hG (rev_recv hG (hR v1 (by omega)).1)) rfl rfl hl.1 rfl (lv_room (Nat.le_of_ble_eq_true rfl)) dX0_letter_30 ⟨by show _ ≤ 8; omega, by show _ ≤ 400; omega⟩) hG (fun r_13 F_14 V_15 ws_ H locs hp hG => ?_)
        obtain ⟨hat9, rfl, rfl, rfl⟩ := hp
        obtain ⟨a9, hu, hln9⟩ : ∃ a9 : Nat, r_13 = some a9 ∧ isLine X F a9 ((wTx (aWd a) v1).getD i1 []) := by rcases hat9 with ⟨h9, _⟩ | ⟨_, _, a9, h9, h8⟩; exact absurd h9 (by omega); exact ⟨a9, h9, h8⟩
        subst hu
        have hG : gW X F V (Z) s H locs := hG
        refine lv_iload_n hx hb dX0_letter_33 rfl (lv_at hl 4 rfl) ?_
        refine g_xi (vx_runVX (As := [.int (zI (k1 : Int))]) (rest := []) ⟨hx, hb, hml, hown, hts⟩ (metX13_letter (k := k1) hst hln9 (by omega)) (vx_cwVW 1 hts (lw_VW q1759 q1760 q1761 q122 q1762) rfl rfl rfl (by decide +kernel) ⟨Nat.le_of_ble_eq_true rfl, Nat.le_of_ble_eq_true rfl⟩) (g_preV hG (hln9.recv hG)) rfl rfl hl.1 rfl (lv_room (Nat.le_of_ble_eq_true rfl)) dX0_letter_34 ⟨by show _ ≤ 8; omega, by show _ ≤ 400; omega⟩) hG (fun E9 ce9 q9 Fx_19 Vx_20 ws_ H locs hpx hG hce => ?_) (fun r_16 F_17 V_18 ws_ H locs hp hG => ?_)
        · exact hpx.elim
        obtain ⟨rfl, rfl, rfl, rfl⟩ := hp
        have hG : gW X F V (Z) s H locs := hG
        refine vx_ret ?_
        exact g_iret hx hb hr hlocks hG (by have e9 : opLetter a (v1 : Int) (i1 : Int) (k1 : Int) = (((((wTx (aWd a) v1).getD i1 []).getD k1 0 : Nat) : Int), a) := (by unfold opLetter; rw [if_neg (by omega), if_neg (by omega)]; first | done | rfl); rw [e9]; exact ⟨(gLe.rfl (V := V)), rfl, (hS).ex, rfl⟩) ⟨by show _ ≤ 8; omega, by show _ ≤ 400; omega⟩ dX0_letter_37
      · refine g_ci (va_runS (As := [.long (zL k), .long (zL 0), .long (zL 8)]) (rest := []) ⟨hx, hb, hml, hown, hts⟩ (metX0_in (a9 := k) (b9 := 0) (c9 := 8) (by omega)) (va_cwS 3 hts (lw_S q524 q525 q87 q526) rfl rfl rfl (by decide +kernel) ⟨Nat.le_of_ble_eq_true rfl, Nat.le_of_ble_eq_true rfl⟩) (g_preS hG) rfl rfl hl.1 rfl (lv_room (Nat.le_of_ble_eq_true rfl)) dX0_letter_19 ⟨by show _ ≤ 8; omega, by show _ ≤ 400; omega⟩) hG (fun r_21 F_22 V_23 ws_ H locs hp hG => ?_)
        obtain ⟨rfl, rfl, rfl, rfl⟩ := hp
        have hG : gW X F V (Z) s H locs := hG
        refine g_topz (y := 0) (by rw [decide_eq_false (by omega)]; rfl) ?_
        refine lv_bipush (v := zI (-5)) hx hb dX0_letter_22 (by decide +kernel) ?_
        refine g_xv (vx_runS (As := [.int (zI 0), .int (zI (-5))]) (rest := []) ⟨hx, hb, hml, hown, hts⟩ (metX0_need_f (k := 5)) (va_cwS 2 hts (lw_S q520 q521 q87 q522) rfl rfl rfl (by decide +kernel) ⟨Nat.le_of_ble_eq_true rfl, Nat.le_of_ble_eq_true rfl⟩) (g_preS hG) rfl rfl hl.1 rfl (lv_room (Nat.le_of_ble_eq_true rfl)) dX0_letter_24 ⟨by show _ ≤ 8; omega, by show _ ≤ 400; omega⟩) hG (fun E9 ce9 q9 Fx_27 Vx_28 ws_ H locs hpx hG hce => ?_) (fun F_25 V_26 ws_ H locs hp hG => ?_)
        · obtain ⟨rfl, hle_Fx_27, hq9, rfl, rfl⟩ := hpx
          have hG : gW X Fx_27 V (Z) s H locs := hG
          refine g_catch (name := "LineRemarks$Refused") hown htab [] ⟨0, 37, 38, 21⟩ [] rfl (fun z9 hz9 => absurd hz9 List.not_mem_nil) (by decide) (by decide) (hts _ q410) (hG.1.2.1.1 _ qn498) hce ?_
          refine lv_astore (lv' := [(4, .ref q9), (0, .ref x), (1, .int (zI (v1 : Int))), (2, .int (zI (i1 : Int))), (3, .int (zI k))]) hx hb dX0_letter_38 hl (by decide) rfl (fun ls hl => ?_)
          refine lv_aload_n hx hb dX0_letter_40 rfl (lv_at hl 1 rfl) ?_
          refine lv_aload hx hb dX0_letter_41 (lv_at hl 0 rfl) ?_
          refine g_ci (va_runV (As := [.ref q9]) (rest := []) ⟨hx, hb, hml, hown, hts⟩ (metX0_refused (k := 5) (hS.mono hle_Fx_27) hA hq9 (by decide)) (cwV 1 hts (lw_V q589 q591 qs2 q87 q592) rfl rfl rfl (by decide +kernel) ⟨Nat.le_of_ble_eq_true rfl, Nat.le_of_ble_eq_true rfl⟩) (g_preV hG (g_recv hG (hG.vo hx0) (ci := 0) rfl)) rfl rfl hl.1 rfl (lv_room (Nat.le_of_ble_eq_true rfl)) dX0_letter_43 ⟨by show _ ≤ 8; omega, by show _ ≤ 400; omega⟩) hG (fun r_29 F_30 V_31 ws_ H locs hp hG => ?_)
          obtain ⟨rfl, rfl, hS9, rfl⟩ := hp
          have hG : gW X Fx_27 V_31 (Z) s H locs := hG
          refine vx_ret ?_
          exact g_iret hx hb hr hlocks hG (by have e9 : opLetter a (v1 : Int) (i1 : Int) k = aNoR a 5 := (by unfold opLetter; rw [if_neg (by omega), if_pos (by omega)]; first | done | rfl); rw [e9]; exact ⟨hle_Fx_27, rfl, hS9.ex, rfl⟩) ⟨by show _ ≤ 8; omega, by show _ ≤ 400; omega⟩ dX0_letter_46
        exact hp.elim
    · refine g_xv (vx_runS (As := [.ref (ra v1), .int (zI i)]) (rest := []) ⟨hx, hb, hml, hown, hts⟩ (metX0_mustLine_f (hR v1 (by omega)).1 (hR v1 (by omega)).2 (by omega) (by omega)) (va_cwS 2 hts (lw_S q1751 q1752 q87 q1753) rfl rfl rfl (by decide +kernel) ⟨Nat.le_of_ble_eq_true rfl, Nat.le_of_ble_eq_true rfl⟩) (g_preS hG) rfl rfl hl.1 rfl (lv_room (Nat.le_of_ble_eq_true rfl)) dX0_letter_10 ⟨by show _ ≤ 8; omega, by show _ ≤ 400; omega⟩) hG (fun E9 ce9 q9 Fx_35 Vx_36 ws_ H locs hpx hG hce => ?_) (fun F_33 V_34 ws_ H locs hp hG => ?_)
      · obtain ⟨rfl, hle_Fx_35, hq9, rfl, rfl⟩ := hpx
        have hG : gW X Fx_35 V (Z) s H locs := hG
        refine g_catch (name := "LineRemarks$Refused") hown htab [] ⟨0, 37, 38, 21⟩ [] rfl (fun z9 hz9 => absurd hz9 List.not_mem_nil) (by decide) (by decide) (hts _ q410) (hG.1.2.1.1 _ qn498) hce ?_
        refine lv_astore (lv' := [(4, .ref q9), (0, .ref x), (1, .int (zI (v1 : Int))), (2, .int (zI i)), (3, .int (zI k))]) hx hb dX0_letter_38 hl (by decide) rfl (fun ls hl => ?_)
        refine lv_aload_n hx hb dX0_letter_40 rfl (lv_at hl 1 rfl) ?_
        refine lv_aload hx hb dX0_letter_41 (lv_at hl 0 rfl) ?_
        refine g_ci (va_runV (As := [.ref q9]) (rest := []) ⟨hx, hb, hml, hown, hts⟩ (metX0_refused (k := 5) (hS.mono hle_Fx_35) hA hq9 (by decide)) (cwV 1 hts (lw_V q589 q591 qs2 q87 q592) rfl rfl rfl (by decide +kernel) ⟨Nat.le_of_ble_eq_true rfl, Nat.le_of_ble_eq_true rfl⟩) (g_preV hG (g_recv hG (hG.vo hx0) (ci := 0) rfl)) rfl rfl hl.1 rfl (lv_room (Nat.le_of_ble_eq_true rfl)) dX0_letter_43 ⟨by show _ ≤ 8; omega, by show _ ≤ 400; omega⟩) hG (fun r_37 F_38 V_39 ws_ H locs hp hG => ?_)
        obtain ⟨rfl, rfl, hS9, rfl⟩ := hp
        have hG : gW X Fx_35 V_39 (Z) s H locs := hG
        refine vx_ret ?_
        exact g_iret hx hb hr hlocks hG (by have e9 : opLetter a (v1 : Int) i k = aNoR a 5 := (by unfold opLetter; rw [if_neg (by omega), if_pos (by omega)]; first | done | rfl); rw [e9]; exact ⟨hle_Fx_35, rfl, hS9.ex, rfl⟩) ⟨by show _ ≤ 8; omega, by show _ ≤ 400; omega⟩ dX0_letter_46
      exact hp.elim
  · refine g_xr (vx_runV (As := [.int (zI v)]) (rest := []) ⟨hx, hb, hml, hown, hts⟩ (metX0_revision_f hS hA (by omega)) (cwV 1 hts (lw_V q737 q739 qs4 q87 q740) rfl rfl rfl (by decide +kernel) ⟨Nat.le_of_ble_eq_true rfl, Nat.le_of_ble_eq_true rfl⟩) (g_preV hG (g_recv hG (hG.vo hx0) (ci := 0) rfl)) rfl rfl hl.1 rfl (lv_room (Nat.le_of_ble_eq_true rfl)) dX0_letter_2 ⟨by show _ ≤ 8; omega, by show _ ≤ 400; omega⟩) hG (fun E9 ce9 q9 Fx_43 Vx_44 ws_ H locs hpx hG hce => ?_) (fun r_40 F_41 V_42 ws_ H locs hp hG => ?_)
    · obtain ⟨rfl, hle_Fx_43, hq9, rfl, rfl⟩ := hpx
      have hG : gW X Fx_43 V (Z) s H locs := hG
      refine g_catch (name := "LineRemarks$Refused") hown htab [] ⟨0, 37, 38, 21⟩ [] rfl (fun z9 hz9 => absurd hz9 List.not_mem_nil) (by decide) (by decide) (hts _ q410) (hG.1.2.1.1 _ qn498) hce ?_
      refine lv_astore (lv' := [(4, .ref q9), (0, .ref x), (1, .int (zI v)), (2, .int (zI i)), (3, .int (zI k))]) hx hb dX0_letter_38 hl (by decide) rfl (fun ls hl => ?_)
      refine lv_aload_n hx hb dX0_letter_40 rfl (lv_at hl 1 rfl) ?_
      refine lv_aload hx hb dX0_letter_41 (lv_at hl 0 rfl) ?_
      refine g_ci (va_runV (As := [.ref q9]) (rest := []) ⟨hx, hb, hml, hown, hts⟩ (metX0_refused (k := 1) (hS.mono hle_Fx_43) hA hq9 (by decide)) (cwV 1 hts (lw_V q589 q591 qs2 q87 q592) rfl rfl rfl (by decide +kernel) ⟨Nat.le_of_ble_eq_true rfl, Nat.le_of_ble_eq_true rfl⟩) (g_preV hG (g_recv hG (hG.vo hx0) (ci := 0) rfl)) rfl rfl hl.1 rfl (lv_room (Nat.le_of_ble_eq_true rfl)) dX0_letter_43 ⟨by show _ ≤ 8; omega, by show _ ≤ 400; omega⟩) hG (fun r_45 F_46 V_47 ws_ H locs hp hG => ?_)
      obtain ⟨rfl, rfl, hS9, rfl⟩ := hp
      have hG : gW X Fx_43 V_47 (Z) s H locs := hG
      refine vx_ret ?_
      exact g_iret hx hb hr hlocks hG (by have e9 : opLetter a v i k = aNoR a 1 := (by unfold opLetter; rw [if_pos (by omega)]; first | done | rfl); rw [e9]; exact ⟨hle_Fx_43, rfl, hS9.ex, rfl⟩) ⟨by show _ ≤ 8; omega, by show _ ≤ 400; omega⟩ dX0_letter_46
    exact hp.elim

set_option maxHeartbeats 4000000 in
theorem metX0_match {l : Launch} {X : gX} {F : gF} {V : gV} {Z : va_W} {v1 y1 : Nat} {x sa rf tr tb kl wa rv rk st : Nat} {sh ra la ma : Nat → Nat} {im : Option Nat} {a : aS} (hS : xS X F V x a sa rf tr tb kl wa rv rk st sh ra la ma im) (hA : aOK a) (hv9 : v1 < wN (aWd a)) (hy9 : y1 < wN (aWd a)) : Met l yX0_match (ws_ yX0_match cX0_match 3 (some (FieldType.object "LineRemarks$Match"))) ({ frames := 6, cells := 32, slots := 790, locals := 137 }) (gP X F V (Z) [.ref x, .ref (ra v1), .ref (ra y1)]) (gQr X (fun u G U ws => gLe F G ∧ V = U ∧ isMatch X G u (wRun (aWd a)) (wTx (aWd a) v1) (wTx (aWd a) y1) ∧ Z = ws)) 32 790 (gA X) := by
  refine Met.g (by decide) (Nat.le_of_ble_eq_true rfl) ?_
  intro p e s m below meth c ls hx hb hr hts hown hlocks hml hin hG hl
  have hl : lv_has ls 3 [(0, .ref x), (1, .ref (ra v1)), (2, .ref (ra y1))] := hl
  have hSA := hS
  obtain ⟨hx0, ⟨fs9, hx1, hsh⟩, ⟨gr9, hx2, hgr⟩, hx3, hx4, hW, hx6, hx7⟩ := hSA
  have hSA := hS
  have hK := hA.w
  have hNN := hK.n
  have hMM := hK.m
  obtain ⟨hw0, ⟨fR, hw1, hwR⟩, ⟨fM, hw2, hwM⟩, ⟨fS, hw3, hwS⟩, hR, hMk⟩ := id hW
  have hw0 : V 4 = some (wa, oB 2 [.int (zI (wN (aWd a) : Int)), .int (zI (wM (aWd a) : Int)), .int (zI (wRun (aWd a) : Int)), .int (zI (wNeed (aWd a) : Int)), .int (zI (wMar (aWd a) : Int)), .int (wSeed (aWd a)), .ref rv, .ref rk, .ref st]) := hw0
  have hw1 : V 5 = some (rv, aR (gT X 7) 16 fR) := hw1
  have hw2 : V 6 = some (rk, aR (gT X 8) 16 fM) := hw2
  have hw3 : V 7 = some (st, aI (gT X 5) 16 fS) := hw3
  have hlnv1 : aLn a ((v1 : Nat) : Int) = ((wTx (aWd a) v1).length : Nat) := rfl
  have h24v1 := (hK.tx (r := v1) (by omega)).1
  have hlny1 : aLn a ((y1 : Nat) : Int) = ((wTx (aWd a) y1).length : Nat) := rfl
  have h24y1 := (hK.tx (r := y1) (by omega)).1
  have hru := hK.ru
  refine g_new (ci := 13) hx hb hts in_X15 tyX15 tyX15_ok hown (hts _ q1784) (hts _ q1785) (hts _ q141) hG rfl (fs := [.int (zI 0), .int (zI 0), .null, .int (zI 0), .int (zI 0), .null, .null, .null, .null]) rfl ⟨Nat.le_of_ble_eq_true rfl, Nat.le_of_ble_eq_true rfl⟩ dX0_match_0 (fun mt H (hG : gW X F V ((mt, oB 13 [.int (zI 0), .int (zI 0), .null, .int (zI 0), .int (zI 0), .null, .null, .null, .null]) :: Z) s H _) => ?_)
  refine lv_dup hx hb dX0_match_3 rfl ?_
  refine lv_aload_n hx hb dX0_match_4 rfl (lv_at hl 1 rfl) ?_
  obtain ⟨vc_1, hrvc_1, hgvc_1⟩ := hG.rv (hR v1 (by omega)).1
  refine g_get (ci := 12) hx hb hts in_X14 hown hG hrvc_1 rfl 2 (Nat.le_of_ble_eq_true rfl) (hts _ q1728) (fun _ h9 => h9) rfl dX0_match_5 ?_
  refine lv_aload_n hx hb dX0_match_8 rfl (lv_at hl 2 rfl) ?_
  obtain ⟨vc_2, hrvc_2, hgvc_2⟩ := hG.rv (hR y1 (by omega)).1
  refine g_get (ci := 12) hx hb hts in_X14 hown hG hrvc_2 rfl 2 (Nat.le_of_ble_eq_true rfl) (hts _ q1728) (fun _ h9 => h9) rfl dX0_match_9 ?_
  refine lv_aload_n hx hb dX0_match_12 rfl (lv_at hl 0 rfl) ?_
  refine g_get (ci := 0) hx hb hts in_X0 hown hG (hG.vo hx0) rfl 4 (Nat.le_of_ble_eq_true rfl) (hts _ q388) (fun _ h9 => h9) rfl dX0_match_13 ?_
  refine g_get (ci := 2) hx hb hts in_X2 hown hG (hG.vo hw0) rfl 2 (Nat.le_of_ble_eq_true rfl) (hts _ q339) (fun _ h9 => h9) rfl dX0_match_16 ?_
  refine g_cv (va_runI (As := [.ref (la v1), .ref (la y1), .int (zI (wRun (aWd a) : Int))]) (rest := [.ref mt]) ⟨hx, hb, hml, hown, hts⟩ (metX15_init (hR v1 hv9).2 (hR y1 hy9).2 (by omega)) (cwI 3 hts (lw_meth q1788) rfl rfl rfl (hts _ q141) (hts _ q1786) (hts _ q1787) rfl (by decide +kernel) ⟨Nat.le_of_ble_eq_true rfl, Nat.le_of_ble_eq_true rfl⟩) (g_preS hG) rfl rfl hl.1 rfl (lv_room (Nat.le_of_ble_eq_true rfl)) dX0_match_19 ⟨by show _ ≤ 32; omega, by show _ ≤ 790; omega⟩) hG (fun G1 V_4 ws_ H locs hp hG => ?_)
  obtain ⟨hle_G1, rfl, hmt, rfl⟩ := hp
  have hG : gW X G1 V (Z) s H locs := hG
  exact g_rret hx hb hr (Or.inl ⟨_, rfl⟩) hlocks hG (⟨hle_G1, rfl, hmt, rfl⟩) ⟨by show _ ≤ 32; omega, by show _ ≤ 790; omega⟩ dX0_match_22

set_option maxHeartbeats 4000000 in
theorem metX0_place {l : Launch} {X : gX} {F : gF} {V : gV} {Z : va_W} {x sa rf tr tb kl wa rv rk st : Nat} {sh ra la ma : Nat → Nat} {im : Option Nat} {a : aS} (hS : xS X F V x a sa rf tr tb kl wa rv rk st sh ra la ma im) (hA : aOK a) (hst : l.stackTraces = false) {v y i : Int} (hrv : (-2147483648 ≤ v ∧ v < 2147483648)) (hry : (-2147483648 ≤ y ∧ y < 2147483648)) (hri : (-2147483648 ≤ i ∧ i < 2147483648)) : vx_Met l yX0_place (wsW_ yX0_place cX0_place 6 (some FieldType.int) [(0, 33, 34, 21)]) ({ frames := 7, cells := 40, slots := 1300, locals := 159 }) (gP X F V (Z) [.ref x, .int (zI v), .int (zI y), .int (zI i)]) (gQi X (fun u G U ws => gLe F G ∧ u = zI (opPlace a v y i).1 ∧ xX X G U x (opPlace a v y i).2 ∧ Z = ws)) (gXc X (fun _ _ _ _ _ => False)) 40 1300 (gA X) := by
  refine vx_Met.gH (by decide) (Nat.le_of_ble_eq_true rfl) ?_
  intro p e s m below meth c ls hx hb hr hts hown hlocks hml hin htab hG hl
  have hl : lv_has ls 6 [(0, .ref x), (1, .int (zI v)), (2, .int (zI y)), (3, .int (zI i))] := hl
  have hSA := hS
  obtain ⟨hx0, ⟨fs9, hx1, hsh⟩, ⟨gr9, hx2, hgr⟩, hx3, hx4, hW, hx6, hx7⟩ := hSA
  have hSA := hS
  have hK := hA.w
  have hNN := hK.n
  have hMM := hK.m
  obtain ⟨hw0, ⟨fR, hw1, hwR⟩, ⟨fM, hw2, hwM⟩, ⟨fS, hw3, hwS⟩, hR, hMk⟩ := id hW
  have hw0 : V 4 = some (wa, oB 2 [.int (zI (wN (aWd a) : Int)), .int (zI (wM (aWd a) : Int)), .int (zI (wRun (aWd a) : Int)), .int (zI (wNeed (aWd a) : Int)), .int (zI (wMar (aWd a) : Int)), .int (wSeed (aWd a)), .ref rv, .ref rk, .ref st]) := hw0
  have hw1 : V 5 = some (rv, aR (gT X 7) 16 fR) := hw1
  have hw2 : V 6 = some (rk, aR (gT X 8) 16 fM) := hw2
  have hw3 : V 7 = some (st, aI (gT X 5) 16 fS) := hw3
  refine lv_aload_n hx hb dX0_place_0 rfl (lv_at hl 0 rfl) ?_
  refine lv_iload_n hx hb dX0_place_1 rfl (lv_at hl 1 rfl) ?_
  by_cases hcv : 0 ≤ v ∧ v < wN (aWd a)
  · obtain ⟨v1, rfl⟩ : ∃ z : Nat, v = (z : Int) := ⟨v.toNat, by omega⟩
    refine g_cr (va_runV (As := [.int (zI (v1 : Int))]) (rest := []) ⟨hx, hb, hml, hown, hts⟩ (metX0_revision_t (r := v1) hS hA (by omega)) (cwV 1 hts (lw_V q737 q739 qs4 q87 q740) rfl rfl rfl (by decide +kernel) ⟨Nat.le_of_ble_eq_true rfl, Nat.le_of_ble_eq_true rfl⟩) (g_preV hG (g_recv hG (hG.vo hx0) (ci := 0) rfl)) rfl rfl hl.1 rfl (lv_room (Nat.le_of_ble_eq_true rfl)) dX0_place_2 ⟨by show _ ≤ 40; omega, by show _ ≤ 1300; omega⟩) hG (fun r_1 F_2 V_3 ws_ H locs hp hG => ?_)
    obtain ⟨rfl, rfl, rfl, rfl⟩ := hp
    have hG : gW X F V (Z) s H locs := hG
    have hlnv1 : aLn a ((v1 : Nat) : Int) = ((wTx (aWd a) v1).length : Nat) := rfl
    have h24v1 := (hK.tx (r := v1) (by omega)).1
    refine lv_astore (lv' := [(4, .ref (ra v1)), (0, .ref x), (1, .int (zI (v1 : Int))), (2, .int (zI y)), (3, .int (zI i))]) hx hb dX0_place_5 hl (by decide) rfl (fun ls hl => ?_)
    refine lv_aload_n hx hb dX0_place_7 rfl (lv_at hl 1 rfl) ?_
    refine lv_iload_n hx hb dX0_place_8 rfl (lv_at hl 3 rfl) ?_
    by_cases hcy : 0 ≤ y ∧ y < wN (aWd a)
    · obtain ⟨y1, rfl⟩ : ∃ z : Nat, y = (z : Int) := ⟨y.toNat, by omega⟩
      refine g_cr (va_runV (As := [.int (zI (y1 : Int))]) (rest := []) ⟨hx, hb, hml, hown, hts⟩ (metX0_revision_t (r := y1) hS hA (by omega)) (cwV 1 hts (lw_V q737 q739 qs4 q87 q740) rfl rfl rfl (by decide +kernel) ⟨Nat.le_of_ble_eq_true rfl, Nat.le_of_ble_eq_true rfl⟩) (g_preV hG (g_recv hG (hG.vo hx0) (ci := 0) rfl)) rfl rfl hl.1 rfl (lv_room (Nat.le_of_ble_eq_true rfl)) dX0_place_9 ⟨by show _ ≤ 40; omega, by show _ ≤ 1300; omega⟩) hG (fun r_4 F_5 V_6 ws_ H locs hp hG => ?_)
      obtain ⟨rfl, rfl, rfl, rfl⟩ := hp
      have hG : gW X F V (Z) s H locs := hG
      have hlny1 : aLn a ((y1 : Nat) : Int) = ((wTx (aWd a) y1).length : Nat) := rfl
      have h24y1 := (hK.tx (r := y1) (by omega)).1
      refine lv_astore (lv' := [(5, .ref (ra y1)), (4, .ref (ra v1)), (0, .ref x), (1, .int (zI (v1 : Int))), (2, .int (zI (y1 : Int))), (3, .int (zI i))]) hx hb dX0_place_12 hl (by decide) rfl (fun ls hl => ?_)
      refine lv_aload hx hb dX0_place_14 (lv_at hl 1 rfl) ?_
      refine lv_iload_n hx hb dX0_place_16 rfl (lv_at hl 5 rfl) ?_
      by_cases hci : 0 ≤ i ∧ i < ((wTx (aWd a) v1).length : Int)
      · refine g_cv (va_runS (As := [.ref (ra v1), .int (zI i)]) (rest := []) ⟨hx, hb, hml, hown, hts⟩ (metX0_mustLine_t (hR v1 (by omega)).1 (hR v1 (by omega)).2 (by omega) (by omega)) (va_cwS 2 hts (lw_S q1751 q1752 q87 q1753) rfl rfl rfl (by decide +kernel) ⟨Nat.le_of_ble_eq_true rfl, Nat.le_of_ble_eq_true rfl⟩) (g_preS hG) rfl rfl hl.1 rfl (lv_room (Nat.le_of_ble_eq_true rfl)) dX0_place_17 ⟨by show _ ≤ 40; omega, by show _ ≤ 1300; omega⟩) hG (fun F_8 V_9 ws_ H locs hp hG => ?_)
        obtain ⟨rfl, rfl, rfl⟩ := hp
        have hG : gW X F V (Z) s H locs := hG
        obtain ⟨i1, rfl⟩ : ∃ z : Nat, i = (z : Int) := ⟨i.toNat, by omega⟩
        refine lv_aload_n hx hb dX0_place_20 rfl (lv_at hl 2 rfl) ?_
        refine lv_aload hx hb dX0_place_21 (lv_at hl 1 rfl) ?_
        refine lv_aload hx hb dX0_place_23 (lv_at hl 0 rfl) ?_
        refine g_cr (va_runV (As := [.ref (ra v1), .ref (ra y1)]) (rest := []) ⟨hx, hb, hml, hown, hts⟩ (metX0_match (v1 := v1) (y1 := y1) hS hA (by omega) (by omega)) (cwV 2 hts (lw_V q1780 q1782 qs19 q87 q1783) rfl rfl rfl (by decide +kernel) ⟨Nat.le_of_ble_eq_true rfl, Nat.le_of_ble_eq_true rfl⟩) (g_preV hG (g_recv hG (hG.vo hx0) (ci := 0) rfl)) rfl rfl hl.1 rfl (lv_room (Nat.le_of_ble_eq_true rfl)) dX0_place_25 ⟨by show _ ≤ 40; omega, by show _ ≤ 1300; omega⟩) hG (fun mt G1 V_10 ws_ H locs hp hG => ?_)
        obtain ⟨hle_G1, rfl, hmt, rfl⟩ := hp
        have hG : gW X G1 V (Z) s H locs := hG
        have hmZ := hmt
        obtain ⟨pl, fp, w5, w6, w7, w8, hm1, hm2, hm3⟩ := hmZ
        refine g_get (ci := 13) hx hb hts in_X15 hown hG (hG.fz hm1) rfl 2 (Nat.le_of_ble_eq_true rfl) (hts _ q1913) (fun _ h9 => h9) rfl dX0_place_28 ?_
        refine lv_iload_n hx hb dX0_place_31 rfl (lv_at hl 5 rfl) ?_
        refine g_iald hx hb hG (hG.fz hm2) i1 ⟨rfl, by omega, by omega⟩ (v := zI (oI (mPlace (wTx (aWd a) v1) (wTx (aWd a) y1) (wRun (aWd a)) i1))) (hm3 i1 (by omega)) dX0_place_32 ?_
        refine vx_ret ?_
        exact g_iret hx hb hr hlocks hG (by have e9 : opPlace a (v1 : Int) (y1 : Int) (i1 : Int) = (oI (mPlace (wTx (aWd a) v1) (wTx (aWd a) y1) (wRun (aWd a)) i1), a) := (by unfold opPlace; rw [if_neg (by omega), if_neg (by omega)]; first | done | rfl); rw [e9]; exact ⟨hle_G1, rfl, ((hS.mono hle_G1)).ex, rfl⟩) ⟨by show _ ≤ 40; omega, by show _ ≤ 1300; omega⟩ dX0_place_33
      · refine g_xv (vx_runS (As := [.ref (ra v1), .int (zI i)]) (rest := []) ⟨hx, hb, hml, hown, hts⟩ (metX0_mustLine_f (hR v1 (by omega)).1 (hR v1 (by omega)).2 (by omega) (by omega)) (va_cwS 2 hts (lw_S q1751 q1752 q87 q1753) rfl rfl rfl (by decide +kernel) ⟨Nat.le_of_ble_eq_true rfl, Nat.le_of_ble_eq_true rfl⟩) (g_preS hG) rfl rfl hl.1 rfl (lv_room (Nat.le_of_ble_eq_true rfl)) dX0_place_17 ⟨by show _ ≤ 40; omega, by show _ ≤ 1300; omega⟩) hG (fun E9 ce9 q9 Fx_14 Vx_15 ws_ H locs hpx hG hce => ?_) (fun F_12 V_13 ws_ H locs hp hG => ?_)
        · obtain ⟨rfl, hle_Fx_14, hq9, rfl, rfl⟩ := hpx
          have hG : gW X Fx_14 V (Z) s H locs := hG
          refine g_catch (name := "LineRemarks$Refused") hown htab [] ⟨0, 33, 34, 21⟩ [] rfl (fun z9 hz9 => absurd hz9 List.not_mem_nil) (by decide) (by decide) (hts _ q410) (hG.1.2.1.1 _ qn498) hce ?_
          refine lv_astore (lv' := [(4, .ref q9), (5, .ref (ra y1)), (0, .ref x), (1, .int (zI (v1 : Int))), (2, .int (zI (y1 : Int))), (3, .int (zI i))]) hx hb dX0_place_34 hl (by decide) rfl (fun ls hl => ?_)
          refine lv_aload_n hx hb dX0_place_36 rfl (lv_at hl 2 rfl) ?_
          refine lv_aload hx hb dX0_place_37 (lv_at hl 0 rfl) ?_
          refine g_ci (va_runV (As := [.ref q9]) (rest := []) ⟨hx, hb, hml, hown, hts⟩ (metX0_refused (k := 5) (hS.mono hle_Fx_14) hA hq9 (by decide)) (cwV 1 hts (lw_V q589 q591 qs2 q87 q592) rfl rfl rfl (by decide +kernel) ⟨Nat.le_of_ble_eq_true rfl, Nat.le_of_ble_eq_true rfl⟩) (g_preV hG (g_recv hG (hG.vo hx0) (ci := 0) rfl)) rfl rfl hl.1 rfl (lv_room (Nat.le_of_ble_eq_true rfl)) dX0_place_39 ⟨by show _ ≤ 40; omega, by show _ ≤ 1300; omega⟩) hG (fun r_16 F_17 V_18 ws_ H locs hp hG => ?_)
          obtain ⟨rfl, rfl, hS9, rfl⟩ := hp
          have hG : gW X Fx_14 V_18 (Z) s H locs := hG
          refine lv_bipush (v := zI 10) hx hb dX0_place_42 (by decide +kernel) ?_
          refine g_isub hx hb dX0_place_44 ?_
          refine vx_ret ?_
          exact g_iret hx hb hr hlocks hG (by have e9 : opPlace a (v1 : Int) (y1 : Int) i = aNoT a 5 := (by unfold opPlace; rw [if_neg (by omega), if_pos (by omega)]; first | done | rfl); rw [e9]; exact ⟨hle_Fx_14, rfl, hS9.ex, rfl⟩) ⟨by show _ ≤ 40; omega, by show _ ≤ 1300; omega⟩ dX0_place_45
        exact hp.elim
    · refine g_xr (vx_runV (As := [.int (zI y)]) (rest := []) ⟨hx, hb, hml, hown, hts⟩ (metX0_revision_f hS hA (by omega)) (cwV 1 hts (lw_V q737 q739 qs4 q87 q740) rfl rfl rfl (by decide +kernel) ⟨Nat.le_of_ble_eq_true rfl, Nat.le_of_ble_eq_true rfl⟩) (g_preV hG (g_recv hG (hG.vo hx0) (ci := 0) rfl)) rfl rfl hl.1 rfl (lv_room (Nat.le_of_ble_eq_true rfl)) dX0_place_9 ⟨by show _ ≤ 40; omega, by show _ ≤ 1300; omega⟩) hG (fun E9 ce9 q9 Fx_22 Vx_23 ws_ H locs hpx hG hce => ?_) (fun r_19 F_20 V_21 ws_ H locs hp hG => ?_)
      · obtain ⟨rfl, hle_Fx_22, hq9, rfl, rfl⟩ := hpx
        have hG : gW X Fx_22 V (Z) s H locs := hG
        refine g_catch (name := "LineRemarks$Refused") hown htab [] ⟨0, 33, 34, 21⟩ [] rfl (fun z9 hz9 => absurd hz9 List.not_mem_nil) (by decide) (by decide) (hts _ q410) (hG.1.2.1.1 _ qn498) hce ?_
        refine lv_astore (lv' := [(4, .ref q9), (0, .ref x), (1, .int (zI (v1 : Int))), (2, .int (zI y)), (3, .int (zI i))]) hx hb dX0_place_34 hl (by decide) rfl (fun ls hl => ?_)
        refine lv_aload_n hx hb dX0_place_36 rfl (lv_at hl 1 rfl) ?_
        refine lv_aload hx hb dX0_place_37 (lv_at hl 0 rfl) ?_
        refine g_ci (va_runV (As := [.ref q9]) (rest := []) ⟨hx, hb, hml, hown, hts⟩ (metX0_refused (k := 1) (hS.mono hle_Fx_22) hA hq9 (by decide)) (cwV 1 hts (lw_V q589 q591 qs2 q87 q592) rfl rfl rfl (by decide +kernel) ⟨Nat.le_of_ble_eq_true rfl, Nat.le_of_ble_eq_true rfl⟩) (g_preV hG (g_recv hG (hG.vo hx0) (ci := 0) rfl)) rfl rfl hl.1 rfl (lv_room (Nat.le_of_ble_eq_true rfl)) dX0_place_39 ⟨by show _ ≤ 40; omega, by show _ ≤ 1300; omega⟩) hG (fun r_24 F_25 V_26 ws_ H locs hp hG => ?_)
        obtain ⟨rfl, rfl, hS9, rfl⟩ := hp
        have hG : gW X Fx_22 V_26 (Z) s H locs := hG
        refine lv_bipush (v := zI 10) hx hb dX0_place_42 (by decide +kernel) ?_
        refine g_isub hx hb dX0_place_44 ?_
        refine vx_ret ?_
        exact g_iret hx hb hr hlocks hG (by have e9 : opPlace a (v1 : Int) y i = aNoT a 1 := (by unfold opPlace; rw [if_pos (by omega)]; first | done | rfl); rw [e9]; exact ⟨hle_Fx_22, rfl, hS9.ex, rfl⟩) ⟨by show _ ≤ 40; omega, by show _ ≤ 1300; omega⟩ dX0_place_45
      exact hp.elim
  · refine g_xr (vx_runV (As := [.int (zI v)]) (rest := []) ⟨hx, hb, hml, hown, hts⟩ (metX0_revision_f hS hA (by omega)) (cwV 1 hts (lw_V q737 q739 qs4 q87 q740) rfl rfl rfl (by decide +kernel) ⟨Nat.le_of_ble_eq_true rfl, Nat.le_of_ble_eq_true rfl⟩) (g_preV hG (g_recv hG (hG.vo hx0) (ci := 0) rfl)) rfl rfl hl.1 rfl (lv_room (Nat.le_of_ble_eq_true rfl)) dX0_place_2 ⟨by show _ ≤ 40; omega, by show _ ≤ 1300; omega⟩) hG (fun E9 ce9 q9 Fx_30 Vx_31 ws_ H locs hpx hG hce => ?_) (fun r_27 F_28 V_29 ws_ H locs hp hG => ?_)
    · obtain ⟨rfl, hle_Fx_30, hq9, rfl, rfl⟩ := hpx
      have hG : gW X Fx_30 V (Z) s H locs := hG
      refine g_catch (name := "LineRemarks$Refused") hown htab [] ⟨0, 33, 34, 21⟩ [] rfl (fun z9 hz9 => absurd hz9 List.not_mem_nil) (by decide) (by decide) (hts _ q410) (hG.1.2.1.1 _ qn498) hce ?_
      refine lv_astore (lv' := [(4, .ref q9), (0, .ref x), (1, .int (zI v)), (2, .int (zI y)), (3, .int (zI i))]) hx hb dX0_place_34 hl (by decide) rfl (fun ls hl => ?_)
      refine lv_aload_n hx hb dX0_place_36 rfl (lv_at hl 1 rfl) ?_
      refine lv_aload hx hb dX0_place_37 (lv_at hl 0 rfl) ?_
      refine g_ci (va_runV (As := [.ref q9]) (rest := []) ⟨hx, hb, hml, hown, hts⟩ (metX0_refused (k := 1) (hS.mono hle_Fx_30) hA hq9 (by decide)) (cwV 1 hts (lw_V q589 q591 qs2 q87 q592) rfl rfl rfl (by decide +kernel) ⟨Nat.le_of_ble_eq_true rfl, Nat.le_of_ble_eq_true rfl⟩) (g_preV hG (g_recv hG (hG.vo hx0) (ci := 0) rfl)) rfl rfl hl.1 rfl (lv_room (Nat.le_of_ble_eq_true rfl)) dX0_place_39 ⟨by show _ ≤ 40; omega, by show _ ≤ 1300; omega⟩) hG (fun r_32 F_33 V_34 ws_ H locs hp hG => ?_)
      obtain ⟨rfl, rfl, hS9, rfl⟩ := hp
      have hG : gW X Fx_30 V_34 (Z) s H locs := hG
      refine lv_bipush (v := zI 10) hx hb dX0_place_42 (by decide +kernel) ?_
      refine g_isub hx hb dX0_place_44 ?_
      refine vx_ret ?_
      exact g_iret hx hb hr hlocks hG (by have e9 : opPlace a v y i = aNoT a 1 := (by unfold opPlace; rw [if_pos (by omega)]; first | done | rfl); rw [e9]; exact ⟨hle_Fx_30, rfl, hS9.ex, rfl⟩) ⟨by show _ ≤ 40; omega, by show _ ≤ 1300; omega⟩ dX0_place_45
    exact hp.elim

set_option maxHeartbeats 4000000 in
theorem metX0_matched {l : Launch} {X : gX} {F : gF} {V : gV} {Z : va_W} {x sa rf tr tb kl wa rv rk st : Nat} {sh ra la ma : Nat → Nat} {im : Option Nat} {a : aS} (hS : xS X F V x a sa rf tr tb kl wa rv rk st sh ra la ma im) (hA : aOK a) (hst : l.stackTraces = false) {v y i : Int} (hrv : (-2147483648 ≤ v ∧ v < 2147483648)) (hry : (-2147483648 ≤ y ∧ y < 2147483648)) (hri : (-2147483648 ≤ i ∧ i < 2147483648)) : vx_Met l yX0_matched (wsW_ yX0_matched cX0_matched 5 (some FieldType.int) [(0, 45, 46, 21)]) ({ frames := 7, cells := 40, slots := 1300, locals := 159 }) (gP X F V (Z) [.ref x, .int (zI v), .int (zI y), .int (zI i)]) (gQi X (fun u G U ws => gLe F G ∧ u = zI (opMatched a v y i).1 ∧ xX X G U x (opMatched a v y i).2 ∧ Z = ws)) (gXc X (fun _ _ _ _ _ => False)) 40 1300 (gA X) := by
  refine vx_Met.gH (by decide) (Nat.le_of_ble_eq_true rfl) ?_
  intro p e s m below meth c ls hx hb hr hts hown hlocks hml hin htab hG hl
  have hl : lv_has ls 5 [(0, .ref x), (1, .int (zI v)), (2, .int (zI y)), (3, .int (zI i))] := hl
  have hSA := hS
  obtain ⟨hx0, ⟨fs9, hx1, hsh⟩, ⟨gr9, hx2, hgr⟩, hx3, hx4, hW, hx6, hx7⟩ := hSA
  have hSA := hS
  have hK := hA.w
  have hNN := hK.n
  have hMM := hK.m
  obtain ⟨hw0, ⟨fR, hw1, hwR⟩, ⟨fM, hw2, hwM⟩, ⟨fS, hw3, hwS⟩, hR, hMk⟩ := id hW
  have hw0 : V 4 = some (wa, oB 2 [.int (zI (wN (aWd a) : Int)), .int (zI (wM (aWd a) : Int)), .int (zI (wRun (aWd a) : Int)), .int (zI (wNeed (aWd a) : Int)), .int (zI (wMar (aWd a) : Int)), .int (wSeed (aWd a)), .ref rv, .ref rk, .ref st]) := hw0
  have hw1 : V 5 = some (rv, aR (gT X 7) 16 fR) := hw1
  have hw2 : V 6 = some (rk, aR (gT X 8) 16 fM) := hw2
  have hw3 : V 7 = some (st, aI (gT X 5) 16 fS) := hw3
  refine lv_aload_n hx hb dX0_matched_0 rfl (lv_at hl 0 rfl) ?_
  refine lv_aload_n hx hb dX0_matched_1 rfl (lv_at hl 0 rfl) ?_
  refine lv_iload_n hx hb dX0_matched_2 rfl (lv_at hl 1 rfl) ?_
  by_cases hcv : 0 ≤ v ∧ v < wN (aWd a)
  · obtain ⟨v1, rfl⟩ : ∃ z : Nat, v = (z : Int) := ⟨v.toNat, by omega⟩
    refine g_cr (va_runV (As := [.int (zI (v1 : Int))]) (rest := [.ref x]) ⟨hx, hb, hml, hown, hts⟩ (metX0_revision_t (r := v1) hS hA (by omega)) (cwV 1 hts (lw_V q737 q739 qs4 q87 q740) rfl rfl rfl (by decide +kernel) ⟨Nat.le_of_ble_eq_true rfl, Nat.le_of_ble_eq_true rfl⟩) (g_preV hG (g_recv hG (hG.vo hx0) (ci := 0) rfl)) rfl rfl hl.1 rfl (lv_room (Nat.le_of_ble_eq_true rfl)) dX0_matched_3 ⟨by show _ ≤ 40; omega, by show _ ≤ 1300; omega⟩) hG (fun r_1 F_2 V_3 ws_ H locs hp hG => ?_)
    obtain ⟨rfl, rfl, rfl, rfl⟩ := hp
    have hG : gW X F V (Z) s H locs := hG
    have hlnv1 : aLn a ((v1 : Nat) : Int) = ((wTx (aWd a) v1).length : Nat) := rfl
    have h24v1 := (hK.tx (r := v1) (by omega)).1
    refine lv_aload_n hx hb dX0_matched_6 rfl (lv_at hl 0 rfl) ?_
    refine lv_iload_n hx hb dX0_matched_7 rfl (lv_at hl 2 rfl) ?_
    by_cases hcy : 0 ≤ y ∧ y < wN (aWd a)
    · obtain ⟨y1, rfl⟩ : ∃ z : Nat, y = (z : Int) := ⟨y.toNat, by omega⟩
      refine g_cr (va_runV (As := [.int (zI (y1 : Int))]) (rest := [.ref (ra v1), .ref x]) ⟨hx, hb, hml, hown, hts⟩ (metX0_revision_t (r := y1) hS hA (by omega)) (cwV 1 hts (lw_V q737 q739 qs4 q87 q740) rfl rfl rfl (by decide +kernel) ⟨Nat.le_of_ble_eq_true rfl, Nat.le_of_ble_eq_true rfl⟩) (g_preV hG (g_recv hG (hG.vo hx0) (ci := 0) rfl)) rfl rfl hl.1 rfl (lv_room (Nat.le_of_ble_eq_true rfl)) dX0_matched_8 ⟨by show _ ≤ 40; omega, by show _ ≤ 1300; omega⟩) hG (fun r_4 F_5 V_6 ws_ H locs hp hG => ?_)
      obtain ⟨rfl, rfl, rfl, rfl⟩ := hp
      have hG : gW X F V (Z) s H locs := hG
      have hlny1 : aLn a ((y1 : Nat) : Int) = ((wTx (aWd a) y1).length : Nat) := rfl
      have h24y1 := (hK.tx (r := y1) (by omega)).1
      refine g_cr (va_runV (As := [.ref (ra v1), .ref (ra y1)]) (rest := []) ⟨hx, hb, hml, hown, hts⟩ (metX0_match (v1 := v1) (y1 := y1) hS hA (by omega) (by omega)) (cwV 2 hts (lw_V q1780 q1782 qs19 q87 q1783) rfl rfl rfl (by decide +kernel) ⟨Nat.le_of_ble_eq_true rfl, Nat.le_of_ble_eq_true rfl⟩) (g_preV hG (g_recv hG (hG.vo hx0) (ci := 0) rfl)) rfl rfl hl.1 rfl (lv_room (Nat.le_of_ble_eq_true rfl)) dX0_matched_11 ⟨by show _ ≤ 40; omega, by show _ ≤ 1300; omega⟩) hG (fun mt G1 V_7 ws_ H locs hp hG => ?_)
      obtain ⟨hle_G1, rfl, hmt, rfl⟩ := hp
      have hG : gW X G1 V (Z) s H locs := hG
      have hmZ := hmt
      obtain ⟨pl, fp, w5, w6, w7, w8, hm1, hm2, hm3⟩ := hmZ
      refine lv_astore (lv' := [(4, .ref mt), (0, .ref x), (1, .int (zI (v1 : Int))), (2, .int (zI (y1 : Int))), (3, .int (zI i))]) hx hb dX0_matched_14 hl (by decide) rfl (fun ls hl => ?_)
      refine lv_iload_n hx hb dX0_matched_16 rfl (lv_at hl 4 rfl) ?_
      refine g_i2l hx hb dX0_matched_17 (by omega) ?_
      refine lv_lconst (v := zL 0) hx hb dX0_matched_18 (by decide +kernel) ?_
      refine lv_lconst (v := zL 1) hx hb dX0_matched_19 (by decide +kernel) ?_
      by_cases hni : 0 ≤ i ∧ i ≤ 1
      · refine g_ci (va_runS (As := [.long (zL i), .long (zL 0), .long (zL 1)]) (rest := []) ⟨hx, hb, hml, hown, hts⟩ (metX0_in (a9 := i) (b9 := 0) (c9 := 1) (by omega)) (va_cwS 3 hts (lw_S q524 q525 q87 q526) rfl rfl rfl (by decide +kernel) ⟨Nat.le_of_ble_eq_true rfl, Nat.le_of_ble_eq_true rfl⟩) (g_preS hG) rfl rfl hl.1 rfl (lv_room (Nat.le_of_ble_eq_true rfl)) dX0_matched_20 ⟨by show _ ≤ 40; omega, by show _ ≤ 1300; omega⟩) hG (fun r_8 F_9 V_10 ws_ H locs hp hG => ?_)
        obtain ⟨rfl, rfl, rfl, rfl⟩ := hp
        have hG : gW X G1 V (Z) s H locs := hG
        refine g_topz (y := 1) (by rw [decide_eq_true (by omega)]; rfl) ?_
        refine lv_bipush (v := zI (-5)) hx hb dX0_matched_23 (by decide +kernel) ?_
        refine g_cv (va_runS (As := [.int (zI 1), .int (zI (-5))]) (rest := []) ⟨hx, hb, hml, hown, hts⟩ (metX0_need_t (b := 1) (by decide)) (va_cwS 2 hts (lw_S q520 q521 q87 q522) rfl rfl rfl (by decide +kernel) ⟨Nat.le_of_ble_eq_true rfl, Nat.le_of_ble_eq_true rfl⟩) (g_preS hG) rfl rfl hl.1 rfl (lv_room (Nat.le_of_ble_eq_true rfl)) dX0_matched_25 ⟨by show _ ≤ 40; omega, by show _ ≤ 1300; omega⟩) hG (fun F_12 V_13 ws_ H locs hp hG => ?_)
        obtain ⟨rfl, rfl, rfl⟩ := hp
        have hG : gW X G1 V (Z) s H locs := hG
        refine lv_iload_n hx hb dX0_matched_28 rfl (lv_at hl 4 rfl) ?_
        refine g_ne (tgt := 40) hx hb dX0_matched_29 (by decide) (by omega) (fun h5 => ?_) (fun h5 => ?_)
        · refine lv_aload hx hb dX0_matched_40 (lv_at hl 0 rfl) ?_
          refine g_get (ci := 13) hx hb hts in_X15 hown hG (hG.fz hm1) rfl 4 (Nat.le_of_ble_eq_true rfl) (hts _ q1917) (fun _ h9 => h9) rfl dX0_matched_42 ?_
          refine vx_ret ?_
          exact g_iret hx hb hr hlocks hG (by have e9 : opMatched a (v1 : Int) (y1 : Int) i = (((mMoved (wTx (aWd a) v1) (wTx (aWd a) y1) (wRun (aWd a)) : Nat) : Int), a) := (by unfold opMatched; rw [if_neg (by omega), if_neg (by omega), if_neg (by omega)]; first | done | rfl); rw [e9]; exact ⟨hle_G1, rfl, ((hS.mono hle_G1)).ex, rfl⟩) ⟨by show _ ≤ 40; omega, by show _ ≤ 1300; omega⟩ dX0_matched_45
        · have hs_14 : 0 = i := by omega
          subst hs_14
          refine lv_aload hx hb dX0_matched_32 (lv_at hl 0 rfl) ?_
          refine g_get (ci := 13) hx hb hts in_X15 hown hG (hG.fz hm1) rfl 3 (Nat.le_of_ble_eq_true rfl) (hts _ q1915) (fun _ h9 => h9) rfl dX0_matched_34 ?_
          refine lv_goto (tgt := 45) hx hb dX0_matched_37 (by decide) ?_
          refine vx_ret ?_
          exact g_iret hx hb hr hlocks hG (by have e9 : opMatched a (v1 : Int) (y1 : Int) 0 = (((mPairs (wTx (aWd a) v1) (wTx (aWd a) y1) : Nat) : Int), a) := (by unfold opMatched; rw [if_neg (by omega), if_neg (by omega), if_pos (by omega)]; first | done | rfl); rw [e9]; exact ⟨hle_G1, rfl, ((hS.mono hle_G1)).ex, rfl⟩) ⟨by show _ ≤ 40; omega, by show _ ≤ 1300; omega⟩ dX0_matched_45
      · refine g_ci (va_runS (As := [.long (zL i), .long (zL 0), .long (zL 1)]) (rest := []) ⟨hx, hb, hml, hown, hts⟩ (metX0_in (a9 := i) (b9 := 0) (c9 := 1) (by omega)) (va_cwS 3 hts (lw_S q524 q525 q87 q526) rfl rfl rfl (by decide +kernel) ⟨Nat.le_of_ble_eq_true rfl, Nat.le_of_ble_eq_true rfl⟩) (g_preS hG) rfl rfl hl.1 rfl (lv_room (Nat.le_of_ble_eq_true rfl)) dX0_matched_20 ⟨by show _ ≤ 40; omega, by show _ ≤ 1300; omega⟩) hG (fun r_15 F_16 V_17 ws_ H locs hp hG => ?_)
        obtain ⟨rfl, rfl, rfl, rfl⟩ := hp
        have hG : gW X G1 V (Z) s H locs := hG
        refine g_topz (y := 0) (by rw [decide_eq_false (by omega)]; rfl) ?_
        refine lv_bipush (v := zI (-5)) hx hb dX0_matched_23 (by decide +kernel) ?_
        refine g_xv (vx_runS (As := [.int (zI 0), .int (zI (-5))]) (rest := []) ⟨hx, hb, hml, hown, hts⟩ (metX0_need_f (k := 5)) (va_cwS 2 hts (lw_S q520 q521 q87 q522) rfl rfl rfl (by decide +kernel) ⟨Nat.le_of_ble_eq_true rfl, Nat.le_of_ble_eq_true rfl⟩) (g_preS hG) rfl rfl hl.1 rfl (lv_room (Nat.le_of_ble_eq_true rfl)) dX0_matched_25 ⟨by show _ ≤ 40; omega, by show _ ≤ 1300; omega⟩) hG (fun E9 ce9 q9 Fx_21 Vx_22 ws_ H locs hpx hG hce => ?_) (fun F_19 V_20 ws_ H locs hp hG => ?_)
        · obtain ⟨rfl, hle_Fx_21, hq9, rfl, rfl⟩ := hpx
          have hG : gW X Fx_21 V (Z) s H locs := hG
          refine g_catch (name := "LineRemarks$Refused") hown htab [] ⟨0, 45, 46, 21⟩ [] rfl (fun z9 hz9 => absurd hz9 List.not_mem_nil) (by decide) (by decide) (hts _ q410) (hG.1.2.1.1 _ qn498) hce ?_
          refine lv_astore (lv' := [(4, .ref q9), (0, .ref x), (1, .int (zI (v1 : Int))), (2, .int (zI (y1 : Int))), (3, .int (zI i))]) hx hb dX0_matched_46 hl (by decide) rfl (fun ls hl => ?_)
          refine lv_aload_n hx hb dX0_matched_48 rfl (lv_at hl 1 rfl) ?_
          refine lv_aload hx hb dX0_matched_49 (lv_at hl 0 rfl) ?_
          refine g_ci (va_runV (As := [.ref q9]) (rest := []) ⟨hx, hb, hml, hown, hts⟩ (metX0_refused (k := 5) (hS.mono (hle_G1.tr hle_Fx_21)) hA hq9 (by decide)) (cwV 1 hts (lw_V q589 q591 qs2 q87 q592) rfl rfl rfl (by decide +kernel) ⟨Nat.le_of_ble_eq_true rfl, Nat.le_of_ble_eq_true rfl⟩) (g_preV hG (g_recv hG (hG.vo hx0) (ci := 0) rfl)) rfl rfl hl.1 rfl (lv_room (Nat.le_of_ble_eq_true rfl)) dX0_matched_51 ⟨by show _ ≤ 40; omega, by show _ ≤ 1300; omega⟩) hG (fun r_23 F_24 V_25 ws_ H locs hp hG => ?_)
          obtain ⟨rfl, rfl, hS9, rfl⟩ := hp
          have hG : gW X Fx_21 V_25 (Z) s H locs := hG
          refine vx_ret ?_
          exact g_iret hx hb hr hlocks hG (by have e9 : opMatched a (v1 : Int) (y1 : Int) i = aNoR a 5 := (by unfold opMatched; rw [if_neg (by omega), if_pos (by omega)]; first | done | rfl); rw [e9]; exact ⟨(hle_G1.tr hle_Fx_21), rfl, hS9.ex, rfl⟩) ⟨by show _ ≤ 40; omega, by show _ ≤ 1300; omega⟩ dX0_matched_54
        exact hp.elim
    · refine g_xr (vx_runV (As := [.int (zI y)]) (rest := [.ref (ra v1), .ref x]) ⟨hx, hb, hml, hown, hts⟩ (metX0_revision_f hS hA (by omega)) (cwV 1 hts (lw_V q737 q739 qs4 q87 q740) rfl rfl rfl (by decide +kernel) ⟨Nat.le_of_ble_eq_true rfl, Nat.le_of_ble_eq_true rfl⟩) (g_preV hG (g_recv hG (hG.vo hx0) (ci := 0) rfl)) rfl rfl hl.1 rfl (lv_room (Nat.le_of_ble_eq_true rfl)) dX0_matched_8 ⟨by show _ ≤ 40; omega, by show _ ≤ 1300; omega⟩) hG (fun E9 ce9 q9 Fx_29 Vx_30 ws_ H locs hpx hG hce => ?_) (fun r_26 F_27 V_28 ws_ H locs hp hG => ?_)
      · obtain ⟨rfl, hle_Fx_29, hq9, rfl, rfl⟩ := hpx
        have hG : gW X Fx_29 V (Z) s H locs := hG
        refine g_catch (name := "LineRemarks$Refused") hown htab [] ⟨0, 45, 46, 21⟩ [] rfl (fun z9 hz9 => absurd hz9 List.not_mem_nil) (by decide) (by decide) (hts _ q410) (hG.1.2.1.1 _ qn498) hce ?_
        refine lv_astore (lv' := [(4, .ref q9), (0, .ref x), (1, .int (zI (v1 : Int))), (2, .int (zI y)), (3, .int (zI i))]) hx hb dX0_matched_46 hl (by decide) rfl (fun ls hl => ?_)
        refine lv_aload_n hx hb dX0_matched_48 rfl (lv_at hl 1 rfl) ?_
        refine lv_aload hx hb dX0_matched_49 (lv_at hl 0 rfl) ?_
        refine g_ci (va_runV (As := [.ref q9]) (rest := []) ⟨hx, hb, hml, hown, hts⟩ (metX0_refused (k := 1) (hS.mono hle_Fx_29) hA hq9 (by decide)) (cwV 1 hts (lw_V q589 q591 qs2 q87 q592) rfl rfl rfl (by decide +kernel) ⟨Nat.le_of_ble_eq_true rfl, Nat.le_of_ble_eq_true rfl⟩) (g_preV hG (g_recv hG (hG.vo hx0) (ci := 0) rfl)) rfl rfl hl.1 rfl (lv_room (Nat.le_of_ble_eq_true rfl)) dX0_matched_51 ⟨by show _ ≤ 40; omega, by show _ ≤ 1300; omega⟩) hG (fun r_31 F_32 V_33 ws_ H locs hp hG => ?_)
        obtain ⟨rfl, rfl, hS9, rfl⟩ := hp
        have hG : gW X Fx_29 V_33 (Z) s H locs := hG
        refine vx_ret ?_
        exact g_iret hx hb hr hlocks hG (by have e9 : opMatched a (v1 : Int) y i = aNoR a 1 := (by unfold opMatched; rw [if_pos (by omega)]; first | done | rfl); rw [e9]; exact ⟨hle_Fx_29, rfl, hS9.ex, rfl⟩) ⟨by show _ ≤ 40; omega, by show _ ≤ 1300; omega⟩ dX0_matched_54
      exact hp.elim
  · refine g_xr (vx_runV (As := [.int (zI v)]) (rest := [.ref x]) ⟨hx, hb, hml, hown, hts⟩ (metX0_revision_f hS hA (by omega)) (cwV 1 hts (lw_V q737 q739 qs4 q87 q740) rfl rfl rfl (by decide +kernel) ⟨Nat.le_of_ble_eq_true rfl, Nat.le_of_ble_eq_true rfl⟩) (g_preV hG (g_recv hG (hG.vo hx0) (ci := 0) rfl)) rfl rfl hl.1 rfl (lv_room (Nat.le_of_ble_eq_true rfl)) dX0_matched_3 ⟨by show _ ≤ 40; omega, by show _ ≤ 1300; omega⟩) hG (fun E9 ce9 q9 Fx_37 Vx_38 ws_ H locs hpx hG hce => ?_) (fun r_34 F_35 V_36 ws_ H locs hp hG => ?_)
    · obtain ⟨rfl, hle_Fx_37, hq9, rfl, rfl⟩ := hpx
      have hG : gW X Fx_37 V (Z) s H locs := hG
      refine g_catch (name := "LineRemarks$Refused") hown htab [] ⟨0, 45, 46, 21⟩ [] rfl (fun z9 hz9 => absurd hz9 List.not_mem_nil) (by decide) (by decide) (hts _ q410) (hG.1.2.1.1 _ qn498) hce ?_
      refine lv_astore (lv' := [(4, .ref q9), (0, .ref x), (1, .int (zI v)), (2, .int (zI y)), (3, .int (zI i))]) hx hb dX0_matched_46 hl (by decide) rfl (fun ls hl => ?_)
      refine lv_aload_n hx hb dX0_matched_48 rfl (lv_at hl 1 rfl) ?_
      refine lv_aload hx hb dX0_matched_49 (lv_at hl 0 rfl) ?_
      refine g_ci (va_runV (As := [.ref q9]) (rest := []) ⟨hx, hb, hml, hown, hts⟩ (metX0_refused (k := 1) (hS.mono hle_Fx_37) hA hq9 (by decide)) (cwV 1 hts (lw_V q589 q591 qs2 q87 q592) rfl rfl rfl (by decide +kernel) ⟨Nat.le_of_ble_eq_true rfl, Nat.le_of_ble_eq_true rfl⟩) (g_preV hG (g_recv hG (hG.vo hx0) (ci := 0) rfl)) rfl rfl hl.1 rfl (lv_room (Nat.le_of_ble_eq_true rfl)) dX0_matched_51 ⟨by show _ ≤ 40; omega, by show _ ≤ 1300; omega⟩) hG (fun r_39 F_40 V_41 ws_ H locs hp hG => ?_)
      obtain ⟨rfl, rfl, hS9, rfl⟩ := hp
      have hG : gW X Fx_37 V_41 (Z) s H locs := hG
      refine vx_ret ?_
      exact g_iret hx hb hr hlocks hG (by have e9 : opMatched a v y i = aNoR a 1 := (by unfold opMatched; rw [if_pos (by omega)]; first | done | rfl); rw [e9]; exact ⟨hle_Fx_37, rfl, hS9.ex, rfl⟩) ⟨by show _ ≤ 40; omega, by show _ ≤ 1300; omega⟩ dX0_matched_54
    exact hp.elim

set_option maxHeartbeats 4000000 in
theorem metX0_settle {l : Launch} {X : gX} {F : gF} {V : gV} {Z : va_W} {x sa rf tr tb kl wa rv rk st : Nat} {sh ra la ma : Nat → Nat} {im : Option Nat} {a : aS} (hS : xS X F V x a sa rf tr tb kl wa rv rk st sh ra la ma im) (hA : aOK a) (hst : l.stackTraces = false) {v : Int} {z : Bool} (hrv : (-2147483648 ≤ v ∧ v < 2147483648)) : vx_Met l yX0_settle (wsW_ yX0_settle cX0_settle 4 (some FieldType.int) [(0, 35, 36, 21)]) ({ frames := 6, cells := 8, slots := 400, locals := 131 }) (gP X F V (Z) [.ref x, .int (zI v), .int (zI (bI z))]) (gQi X (fun u G U ws => gLe F G ∧ u = zI (opSettle a v (bI z)).1 ∧ xX X G U x (opSettle a v (bI z)).2 ∧ Z = ws)) (gXc X (fun _ _ _ _ _ => False)) 8 400 (gA X) := by
  refine vx_Met.gH (by decide) (Nat.le_of_ble_eq_true rfl) ?_
  intro p e s m below meth c ls hx hb hr hts hown hlocks hml hin htab hG hl
  have hl : lv_has ls 4 [(0, .ref x), (1, .int (zI v)), (2, .int (zI (bI z)))] := hl
  have hSA := hS
  obtain ⟨hx0, ⟨fs9, hx1, hsh⟩, ⟨gr9, hx2, hgr⟩, hx3, hx4, hW, hx6, hx7⟩ := hSA
  have hSA := hS
  have hK := hA.w
  have hNN := hK.n
  have hMM := hK.m
  obtain ⟨hw0, ⟨fR, hw1, hwR⟩, ⟨fM, hw2, hwM⟩, ⟨fS, hw3, hwS⟩, hR, hMk⟩ := id hW
  have hw0 : V 4 = some (wa, oB 2 [.int (zI (wN (aWd a) : Int)), .int (zI (wM (aWd a) : Int)), .int (zI (wRun (aWd a) : Int)), .int (zI (wNeed (aWd a) : Int)), .int (zI (wMar (aWd a) : Int)), .int (wSeed (aWd a)), .ref rv, .ref rk, .ref st]) := hw0
  have hw1 : V 5 = some (rv, aR (gT X 7) 16 fR) := hw1
  have hw2 : V 6 = some (rk, aR (gT X 8) 16 fM) := hw2
  have hw3 : V 7 = some (st, aI (gT X 5) 16 fS) := hw3
  refine lv_aload_n hx hb dX0_settle_0 rfl (lv_at hl 0 rfl) ?_
  refine lv_iload_n hx hb dX0_settle_1 rfl (lv_at hl 1 rfl) ?_
  by_cases hcv : 0 ≤ v ∧ v < wM (aWd a)
  · obtain ⟨v1, rfl⟩ : ∃ z : Nat, v = (z : Int) := ⟨v.toNat, by omega⟩
    refine g_cr (va_runV (As := [.int (zI (v1 : Int))]) (rest := []) ⟨hx, hb, hml, hown, hts⟩ (metX0_told_t (r := v1) hS hA (by omega)) (cwV 1 hts (lw_V q700 q702 qs3 q87 q703) rfl rfl rfl (by decide +kernel) ⟨Nat.le_of_ble_eq_true rfl, Nat.le_of_ble_eq_true rfl⟩) (g_preV hG (g_recv hG (hG.vo hx0) (ci := 0) rfl)) rfl rfl hl.1 rfl (lv_room (Nat.le_of_ble_eq_true rfl)) dX0_settle_2 ⟨by show _ ≤ 8; omega, by show _ ≤ 400; omega⟩) hG (fun r_1 F_2 V_3 ws_ H locs hp hG => ?_)
    obtain ⟨rfl, rfl, rfl, rfl⟩ := hp
    have hG : gW X F V (Z) s H locs := hG
    have hrkv1 := hK.rk (m := v1) (by omega)
    have hrmv1 := hMk v1 (by omega)
    have hkdv1 := hrkv1.1
    refine lv_pop hx hb dX0_settle_5 rfl ?_
    refine lv_aload_n hx hb dX0_settle_6 rfl (lv_at hl 0 rfl) ?_
    refine g_get (ci := 0) hx hb hts in_X0 hown hG (hG.vo hx0) rfl 4 (Nat.le_of_ble_eq_true rfl) (hts _ q388) (fun _ h9 => h9) rfl dX0_settle_7 ?_
    refine g_get (ci := 2) hx hb hts in_X2 hown hG (hG.vo hw0) rfl 8 (Nat.le_of_ble_eq_true rfl) (hts _ q353) (fun _ h9 => h9) rfl dX0_settle_10 ?_
    refine lv_iload_n hx hb dX0_settle_13 rfl (lv_at hl 1 rfl) ?_
    refine g_zald hx hb hG (hG.vo hw3) v1 ⟨rfl, by omega, by omega⟩ (v := zI (bI (wSt (aWd a) v1))) (hwS v1 (by omega)) dX0_settle_14 ?_
    have hb01 : ∀ b : Bool, 0 ≤ bI b ∧ bI b ≤ 1 := fun b => by cases b <;> exact ⟨by decide, by decide⟩
    have hb1 := hb01 (wSt (aWd a) v1)
    refine g_eq (tgt := 22) hx hb dX0_settle_15 (by decide) (by omega) (fun h4 => ?_) (fun h4 => ?_)
    · have hb9 : bI (wSt (aWd a) v1) = 0 := by omega
      refine lv_iconst (v := zI 0) hx hb dX0_settle_22 (by decide +kernel) ?_
      refine lv_istore_n (lv' := [(3, .int (zI 0)), (0, .ref x), (1, .int (zI (v1 : Int))), (2, .int (zI (bI z)))]) hx hb dX0_settle_23 rfl hl (by decide) rfl (fun ls hl => ?_)
      refine lv_aload_n hx hb dX0_settle_24 rfl (lv_at hl 1 rfl) ?_
      refine g_get (ci := 0) hx hb hts in_X0 hown hG (hG.vo hx0) rfl 4 (Nat.le_of_ble_eq_true rfl) (hts _ q388) (fun _ h9 => h9) rfl dX0_settle_25 ?_
      refine g_get (ci := 2) hx hb hts in_X2 hown hG (hG.vo hw0) rfl 8 (Nat.le_of_ble_eq_true rfl) (hts _ q353) (fun _ h9 => h9) rfl dX0_settle_28 ?_
      refine lv_iload_n hx hb dX0_settle_31 rfl (lv_at hl 2 rfl) ?_
      refine lv_iload_n hx hb dX0_settle_32 rfl (lv_at hl 3 rfl) ?_
      refine g_zastV hx hb hG hw3 v1 ⟨rfl, by omega, by omega⟩ (y := (zI (bI z))) (by cases z <;> rfl) dX0_settle_33 (fun H locs (hG : gW X F (va_up V 7 (some (st, aI (gT X 5) 16 (upd fS v1 (zI (bI z)))))) (Z) s H locs) => ?_)
      have hx0 : (va_up V 7 (some (st, aI (gT X 5) 16 (upd fS v1 (zI (bI z)))))) 0 = some (x, oB 0 [.ref sa, .ref rf, .ref tr, .ref kl, .ref wa, va_rf im, .int (zI (aFa a))]) := (vun (by decide)).trans hx0
      have hx2 : (va_up V 7 (some (st, aI (gT X 5) 16 (upd fS v1 (zI (bI z)))))) 1 = some (rf, aI (gT X 0) 8 gr9) := (vun (by decide)).trans hx2
      have hw0 : (va_up V 7 (some (st, aI (gT X 5) 16 (upd fS v1 (zI (bI z)))))) 4 = some (wa, oB 2 [.int (zI (wN (aWd a) : Int)), .int (zI (wM (aWd a) : Int)), .int (zI (wRun (aWd a) : Int)), .int (zI (wNeed (aWd a) : Int)), .int (zI (wMar (aWd a) : Int)), .int (wSeed (aWd a)), .ref rv, .ref rk, .ref st]) := (vun (by decide)).trans hw0
      have hw1 : (va_up V 7 (some (st, aI (gT X 5) 16 (upd fS v1 (zI (bI z)))))) 5 = some (rv, aR (gT X 7) 16 fR) := (vun (by decide)).trans hw1
      have hw2 : (va_up V 7 (some (st, aI (gT X 5) 16 (upd fS v1 (zI (bI z)))))) 6 = some (rk, aR (gT X 8) 16 fM) := (vun (by decide)).trans hw2
      have hw3 : (va_up V 7 (some (st, aI (gT X 5) 16 (upd fS v1 (zI (bI z)))))) 7 = some (st, aI (gT X 5) 16 (upd fS v1 (zI (bI z)))) := vus
      have hW9 : xWd X F (va_up V 7 (some (st, aI (gT X 5) 16 (upd fS v1 (zI (bI z)))))) 4 (wSettle (aWd a) v1 z) wa rv rk st ra la ma := ⟨hw0, ⟨fR, hw1, hwR⟩, ⟨fM, hw2, hwM⟩, ⟨_, hw3, fun m9 hm9 => by by_cases e : m9 = v1; (rw [e]; exact (if_pos rfl).trans (congrArg (fun z => zI (bI z)) (va_up_self (wSt (aWd a)) v1 z).symm)); exact (if_neg e).trans ((hwS m9 hm9).trans (congrArg (fun z => zI (bI z)) (va_up_ne (wSt (aWd a)) z e).symm))⟩, hR, hMk⟩
      refine lv_iload_n hx hb dX0_settle_34 rfl (lv_at hl 0 rfl) ?_
      refine vx_ret ?_
      exact g_iret hx hb hr hlocks hG (by have e9 : opSettle a (v1 : Int) (bI z) = (0, aSetW a (wSettle (aWd a) v1 z)) := (by unfold opSettle; rw [if_neg (by omega)]; show (bI (wSt (aWd a) v1), aSetW a (wSettle (aWd a) v1 (decide (bI z ≠ 0)))) = _; rw [hb9, show decide (bI z ≠ 0) = z by cases z <;> rfl]); rw [e9]; exact ⟨(gLe.rfl (V := V)), rfl, ((hS.setW hA (fun r9 h8 h9 => va_up_ne _ _ (by omega)) hW9 (fun _ _ => rfl))).ex, rfl⟩) ⟨by show _ ≤ 8; omega, by show _ ≤ 400; omega⟩ dX0_settle_35
    · have hb9 : bI (wSt (aWd a) v1) = 1 := by omega
      refine lv_iconst (v := zI 1) hx hb dX0_settle_18 (by decide +kernel) ?_
      refine lv_goto (tgt := 23) hx hb dX0_settle_19 (by decide) ?_
      refine lv_istore_n (lv' := [(3, .int (zI 1)), (0, .ref x), (1, .int (zI (v1 : Int))), (2, .int (zI (bI z)))]) hx hb dX0_settle_23 rfl hl (by decide) rfl (fun ls hl => ?_)
      refine lv_aload_n hx hb dX0_settle_24 rfl (lv_at hl 1 rfl) ?_
      refine g_get (ci := 0) hx hb hts in_X0 hown hG (hG.vo hx0) rfl 4 (Nat.le_of_ble_eq_true rfl) (hts _ q388) (fun _ h9 => h9) rfl dX0_settle_25 ?_
      refine g_get (ci := 2) hx hb hts in_X2 hown hG (hG.vo hw0) rfl 8 (Nat.le_of_ble_eq_true rfl) (hts _ q353) (fun _ h9 => h9) rfl dX0_settle_28 ?_
      refine lv_iload_n hx hb dX0_settle_31 rfl (lv_at hl 2 rfl) ?_
      refine lv_iload_n hx hb dX0_settle_32 rfl (lv_at hl 3 rfl) ?_
      refine g_zastV hx hb hG hw3 v1 ⟨rfl, by omega, by omega⟩ (y := (zI (bI z))) (by cases z <;> rfl) dX0_settle_33 (fun H locs (hG : gW X F (va_up V 7 (some (st, aI (gT X 5) 16 (upd fS v1 (zI (bI z)))))) (Z) s H locs) => ?_)
      have hx0 : (va_up V 7 (some (st, aI (gT X 5) 16 (upd fS v1 (zI (bI z)))))) 0 = some (x, oB 0 [.ref sa, .ref rf, .ref tr, .ref kl, .ref wa, va_rf im, .int (zI (aFa a))]) := (vun (by decide)).trans hx0
      have hx2 : (va_up V 7 (some (st, aI (gT X 5) 16 (upd fS v1 (zI (bI z)))))) 1 = some (rf, aI (gT X 0) 8 gr9) := (vun (by decide)).trans hx2
      have hw0 : (va_up V 7 (some (st, aI (gT X 5) 16 (upd fS v1 (zI (bI z)))))) 4 = some (wa, oB 2 [.int (zI (wN (aWd a) : Int)), .int (zI (wM (aWd a) : Int)), .int (zI (wRun (aWd a) : Int)), .int (zI (wNeed (aWd a) : Int)), .int (zI (wMar (aWd a) : Int)), .int (wSeed (aWd a)), .ref rv, .ref rk, .ref st]) := (vun (by decide)).trans hw0
      have hw1 : (va_up V 7 (some (st, aI (gT X 5) 16 (upd fS v1 (zI (bI z)))))) 5 = some (rv, aR (gT X 7) 16 fR) := (vun (by decide)).trans hw1
      have hw2 : (va_up V 7 (some (st, aI (gT X 5) 16 (upd fS v1 (zI (bI z)))))) 6 = some (rk, aR (gT X 8) 16 fM) := (vun (by decide)).trans hw2
      have hw3 : (va_up V 7 (some (st, aI (gT X 5) 16 (upd fS v1 (zI (bI z)))))) 7 = some (st, aI (gT X 5) 16 (upd fS v1 (zI (bI z)))) := vus
      have hW9 : xWd X F (va_up V 7 (some (st, aI (gT X 5) 16 (upd fS v1 (zI (bI z)))))) 4 (wSettle (aWd a) v1 z) wa rv rk st ra la ma := ⟨hw0, ⟨fR, hw1, hwR⟩, ⟨fM, hw2, hwM⟩, ⟨_, hw3, fun m9 hm9 => by by_cases e : m9 = v1; (rw [e]; exact (if_pos rfl).trans (congrArg (fun z => zI (bI z)) (va_up_self (wSt (aWd a)) v1 z).symm)); exact (if_neg e).trans ((hwS m9 hm9).trans (congrArg (fun z => zI (bI z)) (va_up_ne (wSt (aWd a)) z e).symm))⟩, hR, hMk⟩
      refine lv_iload_n hx hb dX0_settle_34 rfl (lv_at hl 0 rfl) ?_
      refine vx_ret ?_
      exact g_iret hx hb hr hlocks hG (by have e9 : opSettle a (v1 : Int) (bI z) = (1, aSetW a (wSettle (aWd a) v1 z)) := (by unfold opSettle; rw [if_neg (by omega)]; show (bI (wSt (aWd a) v1), aSetW a (wSettle (aWd a) v1 (decide (bI z ≠ 0)))) = _; rw [hb9, show decide (bI z ≠ 0) = z by cases z <;> rfl]); rw [e9]; exact ⟨(gLe.rfl (V := V)), rfl, ((hS.setW hA (fun r9 h8 h9 => va_up_ne _ _ (by omega)) hW9 (fun _ _ => rfl))).ex, rfl⟩) ⟨by show _ ≤ 8; omega, by show _ ≤ 400; omega⟩ dX0_settle_35
  · refine g_xr (vx_runV (As := [.int (zI v)]) (rest := []) ⟨hx, hb, hml, hown, hts⟩ (metX0_told_f hS hA (by omega)) (cwV 1 hts (lw_V q700 q702 qs3 q87 q703) rfl rfl rfl (by decide +kernel) ⟨Nat.le_of_ble_eq_true rfl, Nat.le_of_ble_eq_true rfl⟩) (g_preV hG (g_recv hG (hG.vo hx0) (ci := 0) rfl)) rfl rfl hl.1 rfl (lv_room (Nat.le_of_ble_eq_true rfl)) dX0_settle_2 ⟨by show _ ≤ 8; omega, by show _ ≤ 400; omega⟩) hG (fun E9 ce9 q9 Fx_7 Vx_8 ws_ H locs hpx hG hce => ?_) (fun r_4 F_5 V_6 ws_ H locs hp hG => ?_)
    · obtain ⟨rfl, hle_Fx_7, hq9, rfl, rfl⟩ := hpx
      have hG : gW X Fx_7 V (Z) s H locs := hG
      refine g_catch (name := "LineRemarks$Refused") hown htab [] ⟨0, 35, 36, 21⟩ [] rfl (fun z9 hz9 => absurd hz9 List.not_mem_nil) (by decide) (by decide) (hts _ q410) (hG.1.2.1.1 _ qn498) hce ?_
      refine lv_astore_n (lv' := [(3, .ref q9), (0, .ref x), (1, .int (zI v)), (2, .int (zI (bI z)))]) hx hb dX0_settle_36 rfl hl (by decide) rfl (fun ls hl => ?_)
      refine lv_aload_n hx hb dX0_settle_37 rfl (lv_at hl 1 rfl) ?_
      refine lv_aload_n hx hb dX0_settle_38 rfl (lv_at hl 0 rfl) ?_
      refine g_ci (va_runV (As := [.ref q9]) (rest := []) ⟨hx, hb, hml, hown, hts⟩ (metX0_refused (k := 1) (hS.mono hle_Fx_7) hA hq9 (by decide)) (cwV 1 hts (lw_V q589 q591 qs2 q87 q592) rfl rfl rfl (by decide +kernel) ⟨Nat.le_of_ble_eq_true rfl, Nat.le_of_ble_eq_true rfl⟩) (g_preV hG (g_recv hG (hG.vo hx0) (ci := 0) rfl)) rfl rfl hl.1 rfl (lv_room (Nat.le_of_ble_eq_true rfl)) dX0_settle_39 ⟨by show _ ≤ 8; omega, by show _ ≤ 400; omega⟩) hG (fun r_9 F_10 V_11 ws_ H locs hp hG => ?_)
      obtain ⟨rfl, rfl, hS9, rfl⟩ := hp
      have hG : gW X Fx_7 V_11 (Z) s H locs := hG
      refine vx_ret ?_
      exact g_iret hx hb hr hlocks hG (by have e9 : opSettle a v (bI z) = aNoR a 1 := (by unfold opSettle; rw [if_pos (by omega)]; first | done | rfl); rw [e9]; exact ⟨hle_Fx_7, rfl, hS9.ex, rfl⟩) ⟨by show _ ≤ 8; omega, by show _ ≤ 400; omega⟩ dX0_settle_42
    exact hp.elim

set_option maxHeartbeats 4000000 in
theorem metX0_rule {l : Launch} {X : gX} {F : gF} {V : gV} {Z : va_W} {x sa rf tr tb kl wa rv rk st : Nat} {sh ra la ma : Nat → Nat} {im : Option Nat} {a : aS} (hS : xS X F V x a sa rf tr tb kl wa rv rk st sh ra la ma im) (hA : aOK a) (hst : l.stackTraces = false) {k v : Int} (hrk : (-2147483648 ≤ k ∧ k < 2147483648)) (hrv : (-2147483648 ≤ v ∧ v < 2147483648)) : vx_Met l yX0_rule (wsW_ yX0_rule cX0_rule 4 (some FieldType.int) [(0, 161, 162, 21)]) ({ frames := 5, cells := 8, slots := 400, locals := 110 }) (gP X F V (Z) [.ref x, .int (zI k), .int (zI v)]) (gQi X (fun u G U ws => gLe F G ∧ u = zI (opRule a k v).1 ∧ xX X G U x (opRule a k v).2 ∧ Z = ws)) (gXc X (fun _ _ _ _ _ => False)) 8 400 (gA X) := by
  refine vx_Met.gH (by decide) (Nat.le_of_ble_eq_true rfl) ?_
  intro p e s m below meth c ls hx hb hr hts hown hlocks hml hin htab hG hl
  have hl : lv_has ls 4 [(0, .ref x), (1, .int (zI k)), (2, .int (zI v))] := hl
  have hSA := hS
  obtain ⟨hx0, ⟨fs9, hx1, hsh⟩, ⟨gr9, hx2, hgr⟩, hx3, hx4, hW, hx6, hx7⟩ := hSA
  have hSA := hS
  have hK := hA.w
  have hNN := hK.n
  have hMM := hK.m
  obtain ⟨hw0, ⟨fR, hw1, hwR⟩, ⟨fM, hw2, hwM⟩, ⟨fS, hw3, hwS⟩, hR, hMk⟩ := id hW
  have hw0 : V 4 = some (wa, oB 2 [.int (zI (wN (aWd a) : Int)), .int (zI (wM (aWd a) : Int)), .int (zI (wRun (aWd a) : Int)), .int (zI (wNeed (aWd a) : Int)), .int (zI (wMar (aWd a) : Int)), .int (wSeed (aWd a)), .ref rv, .ref rk, .ref st]) := hw0
  have hw1 : V 5 = some (rv, aR (gT X 7) 16 fR) := hw1
  have hw2 : V 6 = some (rk, aR (gT X 8) 16 fM) := hw2
  have hw3 : V 7 = some (st, aI (gT X 5) 16 fS) := hw3
  refine lv_iload_n hx hb dX0_rule_0 rfl (lv_at hl 1 rfl) ?_
  refine g_i2l hx hb dX0_rule_1 (by omega) ?_
  refine lv_lconst (v := zL 0) hx hb dX0_rule_2 (by decide +kernel) ?_
  refine lv_ldc2 (v := 2) hx hb hown (hts _ q1772) dX0_rule_3 ?_
  refine g_topv (y := .long (zL 2)) (congrArg Value.long (by decide +kernel)) ?_
  by_cases hnk : 0 ≤ k ∧ k ≤ 2
  · refine g_ci (va_runS (As := [.long (zL k), .long (zL 0), .long (zL 2)]) (rest := []) ⟨hx, hb, hml, hown, hts⟩ (metX0_in (a9 := k) (b9 := 0) (c9 := 2) (by omega)) (va_cwS 3 hts (lw_S q524 q525 q87 q526) rfl rfl rfl (by decide +kernel) ⟨Nat.le_of_ble_eq_true rfl, Nat.le_of_ble_eq_true rfl⟩) (g_preS hG) rfl rfl hl.1 rfl (lv_room (Nat.le_of_ble_eq_true rfl)) dX0_rule_6 ⟨by show _ ≤ 8; omega, by show _ ≤ 400; omega⟩) hG (fun r_1 F_2 V_3 ws_ H locs hp hG => ?_)
    obtain ⟨rfl, rfl, rfl, rfl⟩ := hp
    have hG : gW X F V (Z) s H locs := hG
    refine g_topz (y := 1) (by rw [decide_eq_true (by omega)]; rfl) ?_
    refine lv_bipush (v := zI (-6)) hx hb dX0_rule_9 (by decide +kernel) ?_
    refine g_cv (va_runS (As := [.int (zI 1), .int (zI (-6))]) (rest := []) ⟨hx, hb, hml, hown, hts⟩ (metX0_need_t (b := 1) (by decide)) (va_cwS 2 hts (lw_S q520 q521 q87 q522) rfl rfl rfl (by decide +kernel) ⟨Nat.le_of_ble_eq_true rfl, Nat.le_of_ble_eq_true rfl⟩) (g_preS hG) rfl rfl hl.1 rfl (lv_room (Nat.le_of_ble_eq_true rfl)) dX0_rule_11 ⟨by show _ ≤ 8; omega, by show _ ≤ 400; omega⟩) hG (fun F_5 V_6 ws_ H locs hp hG => ?_)
    obtain ⟨rfl, rfl, rfl⟩ := hp
    have hG : gW X F V (Z) s H locs := hG
    rcases (show k = 0 ∨ k = 1 ∨ k = 2 by omega) with hq | hq | hq
    · have hs_7 : 0 = k := by omega
      subst hs_7
      refine lv_iload_n hx hb dX0_rule_14 rfl (lv_at hl 1 rfl) ?_
      by_cases hv9 : 1 ≤ v ∧ v ≤ 9
      · refine g_ne (tgt := 30) hx hb dX0_rule_15 (by decide) (by decide) (fun hq => ?_) (fun hq => ?_)
        · exfalso; omega
        · refine lv_iload_n hx hb dX0_rule_18 rfl (lv_at hl 2 rfl) ?_
          refine g_i2l hx hb dX0_rule_19 (by omega) ?_
          refine lv_lconst (v := zL 1) hx hb dX0_rule_20 (by decide +kernel) ?_
          refine lv_ldc2 (v := 9) hx hb hown (hts _ q1773) dX0_rule_21 ?_
          refine g_topv (y := .long (zL 9)) (congrArg Value.long (by decide +kernel)) ?_
          refine g_ci (va_runS (As := [.long (zL v), .long (zL 1), .long (zL 9)]) (rest := []) ⟨hx, hb, hml, hown, hts⟩ (metX0_in (a9 := v) (b9 := 1) (c9 := 9) (by omega)) (va_cwS 3 hts (lw_S q524 q525 q87 q526) rfl rfl rfl (by decide +kernel) ⟨Nat.le_of_ble_eq_true rfl, Nat.le_of_ble_eq_true rfl⟩) (g_preS hG) rfl rfl hl.1 rfl (lv_room (Nat.le_of_ble_eq_true rfl)) dX0_rule_24 ⟨by show _ ≤ 8; omega, by show _ ≤ 400; omega⟩) hG (fun r_8 F_9 V_10 ws_ H locs hp hG => ?_)
          obtain ⟨rfl, rfl, rfl, rfl⟩ := hp
          have hG : gW X F V (Z) s H locs := hG
          refine g_topz (y := 1) (by rw [decide_eq_true (by omega)]; rfl) ?_
          refine lv_goto (tgt := 50) hx hb dX0_rule_27 (by decide) ?_
          refine lv_bipush (v := zI (-6)) hx hb dX0_rule_50 (by decide +kernel) ?_
          refine g_cv (va_runS (As := [.int (zI 1), .int (zI (-6))]) (rest := []) ⟨hx, hb, hml, hown, hts⟩ (metX0_need_t (b := 1) (by decide)) (va_cwS 2 hts (lw_S q520 q521 q87 q522) rfl rfl rfl (by decide +kernel) ⟨Nat.le_of_ble_eq_true rfl, Nat.le_of_ble_eq_true rfl⟩) (g_preS hG) rfl rfl hl.1 rfl (lv_room (Nat.le_of_ble_eq_true rfl)) dX0_rule_52 ⟨by show _ ≤ 8; omega, by show _ ≤ 400; omega⟩) hG (fun F_12 V_13 ws_ H locs hp hG => ?_)
          obtain ⟨rfl, rfl, rfl⟩ := hp
          have hG : gW X F V (Z) s H locs := hG
          obtain ⟨v1, rfl⟩ : ∃ z : Nat, v = (z : Int) := ⟨v.toNat, by omega⟩
          refine lv_iload_n hx hb dX0_rule_55 rfl (lv_at hl 1 rfl) ?_
          refine g_ne (tgt := 69) hx hb dX0_rule_56 (by decide) (by decide) (fun hq => ?_) (fun hq => ?_)
          · exfalso; omega
          · refine lv_aload_n hx hb dX0_rule_59 rfl (lv_at hl 0 rfl) ?_
            refine g_get (ci := 0) hx hb hts in_X0 hown hG (hG.vo hx0) rfl 4 (Nat.le_of_ble_eq_true rfl) (hts _ q388) (fun _ h9 => h9) rfl dX0_rule_60 ?_
            refine g_get (ci := 2) hx hb hts in_X2 hown hG (hG.vo hw0) rfl 2 (Nat.le_of_ble_eq_true rfl) (hts _ q339) (fun _ h9 => h9) rfl dX0_rule_63 ?_
            refine lv_goto (tgt := 91) hx hb dX0_rule_66 (by decide) ?_
            refine lv_istore_n (lv' := [(3, .int (zI (wRun (aWd a) : Int))), (0, .ref x), (1, .int (zI 0)), (2, .int (zI (v1 : Int)))]) hx hb dX0_rule_91 rfl hl (by decide) rfl (fun ls hl => ?_)
            refine lv_aload_n hx hb dX0_rule_92 rfl (lv_at hl 1 rfl) ?_
            refine g_get (ci := 0) hx hb hts in_X0 hown hG (hG.vo hx0) rfl 4 (Nat.le_of_ble_eq_true rfl) (hts _ q388) (fun _ h9 => h9) rfl dX0_rule_93 ?_
            refine lv_iload_n hx hb dX0_rule_96 rfl (lv_at hl 2 rfl) ?_
            refine g_ne (tgt := 104) hx hb dX0_rule_97 (by decide) (by decide) (fun hq => ?_) (fun hq => ?_)
            · exfalso; omega
            · refine lv_iload_n hx hb dX0_rule_100 rfl (lv_at hl 3 rfl) ?_
              refine lv_goto (tgt := 111) hx hb dX0_rule_101 (by decide) ?_
              refine g_putV (ci := 2) hx hb hts in_X2 tyX2 tyX2_ok nmX2 hown hG hw0 rfl 2 (Nat.le_of_ble_eq_true rfl) (hts _ q339) (fun _ h9 => h9) rfl (tyX2_ok 2 (Nat.le_of_ble_eq_true rfl)) rfl rfl (Nat.le_of_ble_eq_true rfl) dX0_rule_111 (fun H locs (hG : gW X F (va_up V 4 (some (wa, oB 2 [.int (zI (wN (aWd a) : Int)), .int (zI (wM (aWd a) : Int)), .int (zI (v1 : Int)), .int (zI (wNeed (aWd a) : Int)), .int (zI (wMar (aWd a) : Int)), .int (wSeed (aWd a)), .ref rv, .ref rk, .ref st]))) (Z) s H locs) => ?_)
              have hx0 : (va_up V 4 (some (wa, oB 2 [.int (zI (wN (aWd a) : Int)), .int (zI (wM (aWd a) : Int)), .int (zI (v1 : Int)), .int (zI (wNeed (aWd a) : Int)), .int (zI (wMar (aWd a) : Int)), .int (wSeed (aWd a)), .ref rv, .ref rk, .ref st]))) 0 = some (x, oB 0 [.ref sa, .ref rf, .ref tr, .ref kl, .ref wa, va_rf im, .int (zI (aFa a))]) := (vun (by decide)).trans hx0
              have hx2 : (va_up V 4 (some (wa, oB 2 [.int (zI (wN (aWd a) : Int)), .int (zI (wM (aWd a) : Int)), .int (zI (v1 : Int)), .int (zI (wNeed (aWd a) : Int)), .int (zI (wMar (aWd a) : Int)), .int (wSeed (aWd a)), .ref rv, .ref rk, .ref st]))) 1 = some (rf, aI (gT X 0) 8 gr9) := (vun (by decide)).trans hx2
              have hw0 : (va_up V 4 (some (wa, oB 2 [.int (zI (wN (aWd a) : Int)), .int (zI (wM (aWd a) : Int)), .int (zI (v1 : Int)), .int (zI (wNeed (aWd a) : Int)), .int (zI (wMar (aWd a) : Int)), .int (wSeed (aWd a)), .ref rv, .ref rk, .ref st]))) 4 = some (wa, oB 2 [.int (zI (wN (aWd a) : Int)), .int (zI (wM (aWd a) : Int)), .int (zI (v1 : Int)), .int (zI (wNeed (aWd a) : Int)), .int (zI (wMar (aWd a) : Int)), .int (wSeed (aWd a)), .ref rv, .ref rk, .ref st]) := vus
              have hw1 : (va_up V 4 (some (wa, oB 2 [.int (zI (wN (aWd a) : Int)), .int (zI (wM (aWd a) : Int)), .int (zI (v1 : Int)), .int (zI (wNeed (aWd a) : Int)), .int (zI (wMar (aWd a) : Int)), .int (wSeed (aWd a)), .ref rv, .ref rk, .ref st]))) 5 = some (rv, aR (gT X 7) 16 fR) := (vun (by decide)).trans hw1
              have hw2 : (va_up V 4 (some (wa, oB 2 [.int (zI (wN (aWd a) : Int)), .int (zI (wM (aWd a) : Int)), .int (zI (v1 : Int)), .int (zI (wNeed (aWd a) : Int)), .int (zI (wMar (aWd a) : Int)), .int (wSeed (aWd a)), .ref rv, .ref rk, .ref st]))) 6 = some (rk, aR (gT X 8) 16 fM) := (vun (by decide)).trans hw2
              have hw3 : (va_up V 4 (some (wa, oB 2 [.int (zI (wN (aWd a) : Int)), .int (zI (wM (aWd a) : Int)), .int (zI (v1 : Int)), .int (zI (wNeed (aWd a) : Int)), .int (zI (wMar (aWd a) : Int)), .int (wSeed (aWd a)), .ref rv, .ref rk, .ref st]))) 7 = some (st, aI (gT X 5) 16 fS) := (vun (by decide)).trans hw3
              refine lv_aload_n hx hb dX0_rule_114 rfl (lv_at hl 1 rfl) ?_
              refine g_get (ci := 0) hx hb hts in_X0 hown hG (hG.vo hx0) rfl 4 (Nat.le_of_ble_eq_true rfl) (hts _ q388) (fun _ h9 => h9) rfl dX0_rule_115 ?_
              refine lv_iload_n hx hb dX0_rule_118 rfl (lv_at hl 2 rfl) ?_
              refine lv_iconst (v := zI 1) hx hb dX0_rule_119 (by decide +kernel) ?_
              refine g_cne (tgt := 127) hx hb dX0_rule_120 (by decide) (by omega) (fun hq => ?_) (fun hq => ?_)
              · refine lv_aload_n hx hb dX0_rule_127 rfl (lv_at hl 1 rfl) ?_
                refine g_get (ci := 0) hx hb hts in_X0 hown hG (hG.vo hx0) rfl 4 (Nat.le_of_ble_eq_true rfl) (hts _ q388) (fun _ h9 => h9) rfl dX0_rule_128 ?_
                refine g_get (ci := 2) hx hb hts in_X2 hown hG (hG.vo hw0) rfl 3 (Nat.le_of_ble_eq_true rfl) (hts _ q342) (fun _ h9 => h9) rfl dX0_rule_131 ?_
                refine g_putV (ci := 2) hx hb hts in_X2 tyX2 tyX2_ok nmX2 hown hG hw0 rfl 3 (Nat.le_of_ble_eq_true rfl) (hts _ q342) (fun _ h9 => h9) rfl (tyX2_ok 3 (Nat.le_of_ble_eq_true rfl)) rfl rfl (Nat.le_of_ble_eq_true rfl) dX0_rule_134 (fun H locs (hG : gW X F (va_up (va_up V 4 (some (wa, oB 2 [.int (zI (wN (aWd a) : Int)), .int (zI (wM (aWd a) : Int)), .int (zI (v1 : Int)), .int (zI (wNeed (aWd a) : Int)), .int (zI (wMar (aWd a) : Int)), .int (wSeed (aWd a)), .ref rv, .ref rk, .ref st]))) 4 (some (wa, oB 2 [.int (zI (wN (aWd a) : Int)), .int (zI (wM (aWd a) : Int)), .int (zI (v1 : Int)), .int (zI (wNeed (aWd a) : Int)), .int (zI (wMar (aWd a) : Int)), .int (wSeed (aWd a)), .ref rv, .ref rk, .ref st]))) (Z) s H locs) => ?_)
                have hx0 : (va_up (va_up V 4 (some (wa, oB 2 [.int (zI (wN (aWd a) : Int)), .int (zI (wM (aWd a) : Int)), .int (zI (v1 : Int)), .int (zI (wNeed (aWd a) : Int)), .int (zI (wMar (aWd a) : Int)), .int (wSeed (aWd a)), .ref rv, .ref rk, .ref st]))) 4 (some (wa, oB 2 [.int (zI (wN (aWd a) : Int)), .int (zI (wM (aWd a) : Int)), .int (zI (v1 : Int)), .int (zI (wNeed (aWd a) : Int)), .int (zI (wMar (aWd a) : Int)), .int (wSeed (aWd a)), .ref rv, .ref rk, .ref st]))) 0 = some (x, oB 0 [.ref sa, .ref rf, .ref tr, .ref kl, .ref wa, va_rf im, .int (zI (aFa a))]) := (vun (by decide)).trans hx0
                have hx2 : (va_up (va_up V 4 (some (wa, oB 2 [.int (zI (wN (aWd a) : Int)), .int (zI (wM (aWd a) : Int)), .int (zI (v1 : Int)), .int (zI (wNeed (aWd a) : Int)), .int (zI (wMar (aWd a) : Int)), .int (wSeed (aWd a)), .ref rv, .ref rk, .ref st]))) 4 (some (wa, oB 2 [.int (zI (wN (aWd a) : Int)), .int (zI (wM (aWd a) : Int)), .int (zI (v1 : Int)), .int (zI (wNeed (aWd a) : Int)), .int (zI (wMar (aWd a) : Int)), .int (wSeed (aWd a)), .ref rv, .ref rk, .ref st]))) 1 = some (rf, aI (gT X 0) 8 gr9) := (vun (by decide)).trans hx2
                have hw0 : (va_up (va_up V 4 (some (wa, oB 2 [.int (zI (wN (aWd a) : Int)), .int (zI (wM (aWd a) : Int)), .int (zI (v1 : Int)), .int (zI (wNeed (aWd a) : Int)), .int (zI (wMar (aWd a) : Int)), .int (wSeed (aWd a)), .ref rv, .ref rk, .ref st]))) 4 (some (wa, oB 2 [.int (zI (wN (aWd a) : Int)), .int (zI (wM (aWd a) : Int)), .int (zI (v1 : Int)), .int (zI (wNeed (aWd a) : Int)), .int (zI (wMar (aWd a) : Int)), .int (wSeed (aWd a)), .ref rv, .ref rk, .ref st]))) 4 = some (wa, oB 2 [.int (zI (wN (aWd a) : Int)), .int (zI (wM (aWd a) : Int)), .int (zI (v1 : Int)), .int (zI (wNeed (aWd a) : Int)), .int (zI (wMar (aWd a) : Int)), .int (wSeed (aWd a)), .ref rv, .ref rk, .ref st]) := vus
                have hw1 : (va_up (va_up V 4 (some (wa, oB 2 [.int (zI (wN (aWd a) : Int)), .int (zI (wM (aWd a) : Int)), .int (zI (v1 : Int)), .int (zI (wNeed (aWd a) : Int)), .int (zI (wMar (aWd a) : Int)), .int (wSeed (aWd a)), .ref rv, .ref rk, .ref st]))) 4 (some (wa, oB 2 [.int (zI (wN (aWd a) : Int)), .int (zI (wM (aWd a) : Int)), .int (zI (v1 : Int)), .int (zI (wNeed (aWd a) : Int)), .int (zI (wMar (aWd a) : Int)), .int (wSeed (aWd a)), .ref rv, .ref rk, .ref st]))) 5 = some (rv, aR (gT X 7) 16 fR) := (vun (by decide)).trans hw1
                have hw2 : (va_up (va_up V 4 (some (wa, oB 2 [.int (zI (wN (aWd a) : Int)), .int (zI (wM (aWd a) : Int)), .int (zI (v1 : Int)), .int (zI (wNeed (aWd a) : Int)), .int (zI (wMar (aWd a) : Int)), .int (wSeed (aWd a)), .ref rv, .ref rk, .ref st]))) 4 (some (wa, oB 2 [.int (zI (wN (aWd a) : Int)), .int (zI (wM (aWd a) : Int)), .int (zI (v1 : Int)), .int (zI (wNeed (aWd a) : Int)), .int (zI (wMar (aWd a) : Int)), .int (wSeed (aWd a)), .ref rv, .ref rk, .ref st]))) 6 = some (rk, aR (gT X 8) 16 fM) := (vun (by decide)).trans hw2
                have hw3 : (va_up (va_up V 4 (some (wa, oB 2 [.int (zI (wN (aWd a) : Int)), .int (zI (wM (aWd a) : Int)), .int (zI (v1 : Int)), .int (zI (wNeed (aWd a) : Int)), .int (zI (wMar (aWd a) : Int)), .int (wSeed (aWd a)), .ref rv, .ref rk, .ref st]))) 4 (some (wa, oB 2 [.int (zI (wN (aWd a) : Int)), .int (zI (wM (aWd a) : Int)), .int (zI (v1 : Int)), .int (zI (wNeed (aWd a) : Int)), .int (zI (wMar (aWd a) : Int)), .int (wSeed (aWd a)), .ref rv, .ref rk, .ref st]))) 7 = some (st, aI (gT X 5) 16 fS) := (vun (by decide)).trans hw3
                refine lv_aload_n hx hb dX0_rule_137 rfl (lv_at hl 1 rfl) ?_
                refine g_get (ci := 0) hx hb hts in_X0 hown hG (hG.vo hx0) rfl 4 (Nat.le_of_ble_eq_true rfl) (hts _ q388) (fun _ h9 => h9) rfl dX0_rule_138 ?_
                refine lv_iload_n hx hb dX0_rule_141 rfl (lv_at hl 2 rfl) ?_
                refine lv_iconst (v := zI 2) hx hb dX0_rule_142 (by decide +kernel) ?_
                refine g_cne (tgt := 150) hx hb dX0_rule_143 (by decide) (by omega) (fun hq => ?_) (fun hq => ?_)
                · refine lv_aload_n hx hb dX0_rule_150 rfl (lv_at hl 1 rfl) ?_
                  refine g_get (ci := 0) hx hb hts in_X0 hown hG (hG.vo hx0) rfl 4 (Nat.le_of_ble_eq_true rfl) (hts _ q388) (fun _ h9 => h9) rfl dX0_rule_151 ?_
                  refine g_get (ci := 2) hx hb hts in_X2 hown hG (hG.vo hw0) rfl 4 (Nat.le_of_ble_eq_true rfl) (hts _ q345) (fun _ h9 => h9) rfl dX0_rule_154 ?_
                  refine g_putV (ci := 2) hx hb hts in_X2 tyX2 tyX2_ok nmX2 hown hG hw0 rfl 4 (Nat.le_of_ble_eq_true rfl) (hts _ q345) (fun _ h9 => h9) rfl (tyX2_ok 4 (Nat.le_of_ble_eq_true rfl)) rfl rfl (Nat.le_of_ble_eq_true rfl) dX0_rule_157 (fun H locs (hG : gW X F (va_up (va_up (va_up V 4 (some (wa, oB 2 [.int (zI (wN (aWd a) : Int)), .int (zI (wM (aWd a) : Int)), .int (zI (v1 : Int)), .int (zI (wNeed (aWd a) : Int)), .int (zI (wMar (aWd a) : Int)), .int (wSeed (aWd a)), .ref rv, .ref rk, .ref st]))) 4 (some (wa, oB 2 [.int (zI (wN (aWd a) : Int)), .int (zI (wM (aWd a) : Int)), .int (zI (v1 : Int)), .int (zI (wNeed (aWd a) : Int)), .int (zI (wMar (aWd a) : Int)), .int (wSeed (aWd a)), .ref rv, .ref rk, .ref st]))) 4 (some (wa, oB 2 [.int (zI (wN (aWd a) : Int)), .int (zI (wM (aWd a) : Int)), .int (zI (v1 : Int)), .int (zI (wNeed (aWd a) : Int)), .int (zI (wMar (aWd a) : Int)), .int (wSeed (aWd a)), .ref rv, .ref rk, .ref st]))) (Z) s H locs) => ?_)
                  have hx0 : (va_up (va_up (va_up V 4 (some (wa, oB 2 [.int (zI (wN (aWd a) : Int)), .int (zI (wM (aWd a) : Int)), .int (zI (v1 : Int)), .int (zI (wNeed (aWd a) : Int)), .int (zI (wMar (aWd a) : Int)), .int (wSeed (aWd a)), .ref rv, .ref rk, .ref st]))) 4 (some (wa, oB 2 [.int (zI (wN (aWd a) : Int)), .int (zI (wM (aWd a) : Int)), .int (zI (v1 : Int)), .int (zI (wNeed (aWd a) : Int)), .int (zI (wMar (aWd a) : Int)), .int (wSeed (aWd a)), .ref rv, .ref rk, .ref st]))) 4 (some (wa, oB 2 [.int (zI (wN (aWd a) : Int)), .int (zI (wM (aWd a) : Int)), .int (zI (v1 : Int)), .int (zI (wNeed (aWd a) : Int)), .int (zI (wMar (aWd a) : Int)), .int (wSeed (aWd a)), .ref rv, .ref rk, .ref st]))) 0 = some (x, oB 0 [.ref sa, .ref rf, .ref tr, .ref kl, .ref wa, va_rf im, .int (zI (aFa a))]) := (vun (by decide)).trans hx0
                  have hx2 : (va_up (va_up (va_up V 4 (some (wa, oB 2 [.int (zI (wN (aWd a) : Int)), .int (zI (wM (aWd a) : Int)), .int (zI (v1 : Int)), .int (zI (wNeed (aWd a) : Int)), .int (zI (wMar (aWd a) : Int)), .int (wSeed (aWd a)), .ref rv, .ref rk, .ref st]))) 4 (some (wa, oB 2 [.int (zI (wN (aWd a) : Int)), .int (zI (wM (aWd a) : Int)), .int (zI (v1 : Int)), .int (zI (wNeed (aWd a) : Int)), .int (zI (wMar (aWd a) : Int)), .int (wSeed (aWd a)), .ref rv, .ref rk, .ref st]))) 4 (some (wa, oB 2 [.int (zI (wN (aWd a) : Int)), .int (zI (wM (aWd a) : Int)), .int (zI (v1 : Int)), .int (zI (wNeed (aWd a) : Int)), .int (zI (wMar (aWd a) : Int)), .int (wSeed (aWd a)), .ref rv, .ref rk, .ref st]))) 1 = some (rf, aI (gT X 0) 8 gr9) := (vun (by decide)).trans hx2
                  have hw0 : (va_up (va_up (va_up V 4 (some (wa, oB 2 [.int (zI (wN (aWd a) : Int)), .int (zI (wM (aWd a) : Int)), .int (zI (v1 : Int)), .int (zI (wNeed (aWd a) : Int)), .int (zI (wMar (aWd a) : Int)), .int (wSeed (aWd a)), .ref rv, .ref rk, .ref st]))) 4 (some (wa, oB 2 [.int (zI (wN (aWd a) : Int)), .int (zI (wM (aWd a) : Int)), .int (zI (v1 : Int)), .int (zI (wNeed (aWd a) : Int)), .int (zI (wMar (aWd a) : Int)), .int (wSeed (aWd a)), .ref rv, .ref rk, .ref st]))) 4 (some (wa, oB 2 [.int (zI (wN (aWd a) : Int)), .int (zI (wM (aWd a) : Int)), .int (zI (v1 : Int)), .int (zI (wNeed (aWd a) : Int)), .int (zI (wMar (aWd a) : Int)), .int (wSeed (aWd a)), .ref rv, .ref rk, .ref st]))) 4 = some (wa, oB 2 [.int (zI (wN (aWd a) : Int)), .int (zI (wM (aWd a) : Int)), .int (zI (v1 : Int)), .int (zI (wNeed (aWd a) : Int)), .int (zI (wMar (aWd a) : Int)), .int (wSeed (aWd a)), .ref rv, .ref rk, .ref st]) := vus
                  have hw1 : (va_up (va_up (va_up V 4 (some (wa, oB 2 [.int (zI (wN (aWd a) : Int)), .int (zI (wM (aWd a) : Int)), .int (zI (v1 : Int)), .int (zI (wNeed (aWd a) : Int)), .int (zI (wMar (aWd a) : Int)), .int (wSeed (aWd a)), .ref rv, .ref rk, .ref st]))) 4 (some (wa, oB 2 [.int (zI (wN (aWd a) : Int)), .int (zI (wM (aWd a) : Int)), .int (zI (v1 : Int)), .int (zI (wNeed (aWd a) : Int)), .int (zI (wMar (aWd a) : Int)), .int (wSeed (aWd a)), .ref rv, .ref rk, .ref st]))) 4 (some (wa, oB 2 [.int (zI (wN (aWd a) : Int)), .int (zI (wM (aWd a) : Int)), .int (zI (v1 : Int)), .int (zI (wNeed (aWd a) : Int)), .int (zI (wMar (aWd a) : Int)), .int (wSeed (aWd a)), .ref rv, .ref rk, .ref st]))) 5 = some (rv, aR (gT X 7) 16 fR) := (vun (by decide)).trans hw1
                  have hw2 : (va_up (va_up (va_up V 4 (some (wa, oB 2 [.int (zI (wN (aWd a) : Int)), .int (zI (wM (aWd a) : Int)), .int (zI (v1 : Int)), .int (zI (wNeed (aWd a) : Int)), .int (zI (wMar (aWd a) : Int)), .int (wSeed (aWd a)), .ref rv, .ref rk, .ref st]))) 4 (some (wa, oB 2 [.int (zI (wN (aWd a) : Int)), .int (zI (wM (aWd a) : Int)), .int (zI (v1 : Int)), .int (zI (wNeed (aWd a) : Int)), .int (zI (wMar (aWd a) : Int)), .int (wSeed (aWd a)), .ref rv, .ref rk, .ref st]))) 4 (some (wa, oB 2 [.int (zI (wN (aWd a) : Int)), .int (zI (wM (aWd a) : Int)), .int (zI (v1 : Int)), .int (zI (wNeed (aWd a) : Int)), .int (zI (wMar (aWd a) : Int)), .int (wSeed (aWd a)), .ref rv, .ref rk, .ref st]))) 6 = some (rk, aR (gT X 8) 16 fM) := (vun (by decide)).trans hw2
                  have hw3 : (va_up (va_up (va_up V 4 (some (wa, oB 2 [.int (zI (wN (aWd a) : Int)), .int (zI (wM (aWd a) : Int)), .int (zI (v1 : Int)), .int (zI (wNeed (aWd a) : Int)), .int (zI (wMar (aWd a) : Int)), .int (wSeed (aWd a)), .ref rv, .ref rk, .ref st]))) 4 (some (wa, oB 2 [.int (zI (wN (aWd a) : Int)), .int (zI (wM (aWd a) : Int)), .int (zI (v1 : Int)), .int (zI (wNeed (aWd a) : Int)), .int (zI (wMar (aWd a) : Int)), .int (wSeed (aWd a)), .ref rv, .ref rk, .ref st]))) 4 (some (wa, oB 2 [.int (zI (wN (aWd a) : Int)), .int (zI (wM (aWd a) : Int)), .int (zI (v1 : Int)), .int (zI (wNeed (aWd a) : Int)), .int (zI (wMar (aWd a) : Int)), .int (wSeed (aWd a)), .ref rv, .ref rk, .ref st]))) 7 = some (st, aI (gT X 5) 16 fS) := (vun (by decide)).trans hw3
                  refine lv_iload_n hx hb dX0_rule_160 rfl (lv_at hl 0 rfl) ?_
                  have hW9 : xWd X F (va_up (va_up (va_up V 4 (some (wa, oB 2 [.int (zI (wN (aWd a) : Int)), .int (zI (wM (aWd a) : Int)), .int (zI (v1 : Int)), .int (zI (wNeed (aWd a) : Int)), .int (zI (wMar (aWd a) : Int)), .int (wSeed (aWd a)), .ref rv, .ref rk, .ref st]))) 4 (some (wa, oB 2 [.int (zI (wN (aWd a) : Int)), .int (zI (wM (aWd a) : Int)), .int (zI (v1 : Int)), .int (zI (wNeed (aWd a) : Int)), .int (zI (wMar (aWd a) : Int)), .int (wSeed (aWd a)), .ref rv, .ref rk, .ref st]))) 4 (some (wa, oB 2 [.int (zI (wN (aWd a) : Int)), .int (zI (wM (aWd a) : Int)), .int (zI (v1 : Int)), .int (zI (wNeed (aWd a) : Int)), .int (zI (wMar (aWd a) : Int)), .int (wSeed (aWd a)), .ref rv, .ref rk, .ref st]))) 4 (wRule (aWd a) 0 (v1 : Int)) wa rv rk st ra la ma := ⟨hw0, ⟨fR, hw1, hwR⟩, ⟨fM, hw2, hwM⟩, ⟨fS, hw3, hwS⟩, hR, hMk⟩
                  refine vx_ret ?_
                  exact g_iret hx hb hr hlocks hG (by have e9 : opRule a 0 (v1 : Int) = (((wRun (aWd a) : Nat) : Int), aSetW a (wRule (aWd a) 0 (v1 : Int))) := (by unfold opRule; rw [if_neg (by simp; omega)]; first | done | rfl); rw [e9]; exact ⟨(gLe.rfl (V := V)), rfl, ((hS.setW hA (fun r9 h8 h9 => by repeat (first | rfl | refine (va_up_ne _ _ (by omega)).trans ?_)) hW9 (fun _ _ => rfl))).ex, rfl⟩) ⟨by show _ ≤ 8; omega, by show _ ≤ 400; omega⟩ dX0_rule_161
                · exfalso; omega
              · exfalso; omega
      · refine g_ne (tgt := 30) hx hb dX0_rule_15 (by decide) (by decide) (fun hq => ?_) (fun hq => ?_)
        · exfalso; omega
        · refine lv_iload_n hx hb dX0_rule_18 rfl (lv_at hl 2 rfl) ?_
          refine g_i2l hx hb dX0_rule_19 (by omega) ?_
          refine lv_lconst (v := zL 1) hx hb dX0_rule_20 (by decide +kernel) ?_
          refine lv_ldc2 (v := 9) hx hb hown (hts _ q1773) dX0_rule_21 ?_
          refine g_topv (y := .long (zL 9)) (congrArg Value.long (by decide +kernel)) ?_
          refine g_ci (va_runS (As := [.long (zL v), .long (zL 1), .long (zL 9)]) (rest := []) ⟨hx, hb, hml, hown, hts⟩ (metX0_in (a9 := v) (b9 := 1) (c9 := 9) (by omega)) (va_cwS 3 hts (lw_S q524 q525 q87 q526) rfl rfl rfl (by decide +kernel) ⟨Nat.le_of_ble_eq_true rfl, Nat.le_of_ble_eq_true rfl⟩) (g_preS hG) rfl rfl hl.1 rfl (lv_room (Nat.le_of_ble_eq_true rfl)) dX0_rule_24 ⟨by show _ ≤ 8; omega, by show _ ≤ 400; omega⟩) hG (fun r_14 F_15 V_16 ws_ H locs hp hG => ?_)
          obtain ⟨rfl, rfl, rfl, rfl⟩ := hp
          have hG : gW X F V (Z) s H locs := hG
          refine g_topz (y := 0) (by rw [decide_eq_false (by omega)]; rfl) ?_
          refine lv_goto (tgt := 50) hx hb dX0_rule_27 (by decide) ?_
          refine lv_bipush (v := zI (-6)) hx hb dX0_rule_50 (by decide +kernel) ?_
          refine g_xv (vx_runS (As := [.int (zI 0), .int (zI (-6))]) (rest := []) ⟨hx, hb, hml, hown, hts⟩ (metX0_need_f (k := 6)) (va_cwS 2 hts (lw_S q520 q521 q87 q522) rfl rfl rfl (by decide +kernel) ⟨Nat.le_of_ble_eq_true rfl, Nat.le_of_ble_eq_true rfl⟩) (g_preS hG) rfl rfl hl.1 rfl (lv_room (Nat.le_of_ble_eq_true rfl)) dX0_rule_52 ⟨by show _ ≤ 8; omega, by show _ ≤ 400; omega⟩) hG (fun E9 ce9 q9 Fx_20 Vx_21 ws_ H locs hpx hG hce => ?_) (fun F_18 V_19 ws_ H locs hp hG => ?_)
          · obtain ⟨rfl, hle_Fx_20, hq9, rfl, rfl⟩ := hpx
            have hG : gW X Fx_20 V (Z) s H locs := hG
            refine g_catch (name := "LineRemarks$Refused") hown htab [] ⟨0, 161, 162, 21⟩ [] rfl (fun z9 hz9 => absurd hz9 List.not_mem_nil) (by decide) (by decide) (hts _ q410) (hG.1.2.1.1 _ qn498) hce ?_
            refine lv_astore_n (lv' := [(3, .ref q9), (0, .ref x), (1, .int (zI 0)), (2, .int (zI v))]) hx hb dX0_rule_162 rfl hl (by decide) rfl (fun ls hl => ?_)
            refine lv_aload_n hx hb dX0_rule_163 rfl (lv_at hl 1 rfl) ?_
            refine lv_aload_n hx hb dX0_rule_164 rfl (lv_at hl 0 rfl) ?_
            refine g_ci (va_runV (As := [.ref q9]) (rest := []) ⟨hx, hb, hml, hown, hts⟩ (metX0_refused (k := 6) (hS.mono hle_Fx_20) hA hq9 (by decide)) (cwV 1 hts (lw_V q589 q591 qs2 q87 q592) rfl rfl rfl (by decide +kernel) ⟨Nat.le_of_ble_eq_true rfl, Nat.le_of_ble_eq_true rfl⟩) (g_preV hG (g_recv hG (hG.vo hx0) (ci := 0) rfl)) rfl rfl hl.1 rfl (lv_room (Nat.le_of_ble_eq_true rfl)) dX0_rule_165 ⟨by show _ ≤ 8; omega, by show _ ≤ 400; omega⟩) hG (fun r_22 F_23 V_24 ws_ H locs hp hG => ?_)
            obtain ⟨rfl, rfl, hS9, rfl⟩ := hp
            have hG : gW X Fx_20 V_24 (Z) s H locs := hG
            refine vx_ret ?_
            exact g_iret hx hb hr hlocks hG (by have e9 : opRule a 0 v = aNoR a 6 := (by unfold opRule; rw [if_pos (by simp; omega)]; first | done | rfl); rw [e9]; exact ⟨hle_Fx_20, rfl, hS9.ex, rfl⟩) ⟨by show _ ≤ 8; omega, by show _ ≤ 400; omega⟩ dX0_rule_168
          exact hp.elim
    · have hs_25 : 1 = k := by omega
      subst hs_25
      refine lv_iload_n hx hb dX0_rule_14 rfl (lv_at hl 1 rfl) ?_
      by_cases hv9 : 0 ≤ v ∧ v ≤ 99
      · refine g_ne (tgt := 30) hx hb dX0_rule_15 (by decide) (by decide) (fun hq => ?_) (fun hq => ?_)
        · refine lv_iload_n hx hb dX0_rule_30 rfl (lv_at hl 2 rfl) ?_
          refine g_i2l hx hb dX0_rule_31 (by omega) ?_
          refine lv_lconst (v := zL 0) hx hb dX0_rule_32 (by decide +kernel) ?_
          refine lv_iload_n hx hb dX0_rule_33 rfl (lv_at hl 1 rfl) ?_
          refine lv_iconst (v := zI 1) hx hb dX0_rule_34 (by decide +kernel) ?_
          refine g_cne (tgt := 44) hx hb dX0_rule_35 (by decide) (by omega) (fun hq => ?_) (fun hq => ?_)
          · exfalso; omega
          · refine lv_ldc2 (v := 99) hx hb hown (hts _ q1774) dX0_rule_38 ?_
            refine g_topv (y := .long (zL 99)) (congrArg Value.long (by decide +kernel)) ?_
            refine lv_goto (tgt := 47) hx hb dX0_rule_41 (by decide) ?_
            refine g_ci (va_runS (As := [.long (zL v), .long (zL 0), .long (zL 99)]) (rest := []) ⟨hx, hb, hml, hown, hts⟩ (metX0_in (a9 := v) (b9 := 0) (c9 := 99) (by omega)) (va_cwS 3 hts (lw_S q524 q525 q87 q526) rfl rfl rfl (by decide +kernel) ⟨Nat.le_of_ble_eq_true rfl, Nat.le_of_ble_eq_true rfl⟩) (g_preS hG) rfl rfl hl.1 rfl (lv_room (Nat.le_of_ble_eq_true rfl)) dX0_rule_47 ⟨by show _ ≤ 8; omega, by show _ ≤ 400; omega⟩) hG (fun r_26 F_27 V_28 ws_ H locs hp hG => ?_)
            obtain ⟨rfl, rfl, rfl, rfl⟩ := hp
            have hG : gW X F V (Z) s H locs := hG
            refine g_topz (y := 1) (by rw [decide_eq_true (by omega)]; rfl) ?_
            refine lv_bipush (v := zI (-6)) hx hb dX0_rule_50 (by decide +kernel) ?_
            refine g_cv (va_runS (As := [.int (zI 1), .int (zI (-6))]) (rest := []) ⟨hx, hb, hml, hown, hts⟩ (metX0_need_t (b := 1) (by decide)) (va_cwS 2 hts (lw_S q520 q521 q87 q522) rfl rfl rfl (by decide +kernel) ⟨Nat.le_of_ble_eq_true rfl, Nat.le_of_ble_eq_true rfl⟩) (g_preS hG) rfl rfl hl.1 rfl (lv_room (Nat.le_of_ble_eq_true rfl)) dX0_rule_52 ⟨by show _ ≤ 8; omega, by show _ ≤ 400; omega⟩) hG (fun F_30 V_31 ws_ H locs hp hG => ?_)
            obtain ⟨rfl, rfl, rfl⟩ := hp
            have hG : gW X F V (Z) s H locs := hG
            obtain ⟨v1, rfl⟩ : ∃ z : Nat, v = (z : Int) := ⟨v.toNat, by omega⟩
            refine lv_iload_n hx hb dX0_rule_55 rfl (lv_at hl 1 rfl) ?_
            refine g_ne (tgt := 69) hx hb dX0_rule_56 (by decide) (by decide) (fun hq => ?_) (fun hq => ?_)
            · refine lv_iload_n hx hb dX0_rule_69 rfl (lv_at hl 1 rfl) ?_
              refine lv_iconst (v := zI 1) hx hb dX0_rule_70 (by decide +kernel) ?_
              refine g_cne (tgt := 84) hx hb dX0_rule_71 (by decide) (by omega) (fun hq => ?_) (fun hq => ?_)
              · exfalso; omega
              · refine lv_aload_n hx hb dX0_rule_74 rfl (lv_at hl 0 rfl) ?_
                refine g_get (ci := 0) hx hb hts in_X0 hown hG (hG.vo hx0) rfl 4 (Nat.le_of_ble_eq_true rfl) (hts _ q388) (fun _ h9 => h9) rfl dX0_rule_75 ?_
                refine g_get (ci := 2) hx hb hts in_X2 hown hG (hG.vo hw0) rfl 3 (Nat.le_of_ble_eq_true rfl) (hts _ q342) (fun _ h9 => h9) rfl dX0_rule_78 ?_
                refine lv_goto (tgt := 91) hx hb dX0_rule_81 (by decide) ?_
                refine lv_istore_n (lv' := [(3, .int (zI (wNeed (aWd a) : Int))), (0, .ref x), (1, .int (zI 1)), (2, .int (zI (v1 : Int)))]) hx hb dX0_rule_91 rfl hl (by decide) rfl (fun ls hl => ?_)
                refine lv_aload_n hx hb dX0_rule_92 rfl (lv_at hl 1 rfl) ?_
                refine g_get (ci := 0) hx hb hts in_X0 hown hG (hG.vo hx0) rfl 4 (Nat.le_of_ble_eq_true rfl) (hts _ q388) (fun _ h9 => h9) rfl dX0_rule_93 ?_
                refine lv_iload_n hx hb dX0_rule_96 rfl (lv_at hl 2 rfl) ?_
                refine g_ne (tgt := 104) hx hb dX0_rule_97 (by decide) (by decide) (fun hq => ?_) (fun hq => ?_)
                · refine lv_aload_n hx hb dX0_rule_104 rfl (lv_at hl 1 rfl) ?_
                  refine g_get (ci := 0) hx hb hts in_X0 hown hG (hG.vo hx0) rfl 4 (Nat.le_of_ble_eq_true rfl) (hts _ q388) (fun _ h9 => h9) rfl dX0_rule_105 ?_
                  refine g_get (ci := 2) hx hb hts in_X2 hown hG (hG.vo hw0) rfl 2 (Nat.le_of_ble_eq_true rfl) (hts _ q339) (fun _ h9 => h9) rfl dX0_rule_108 ?_
                  refine g_putV (ci := 2) hx hb hts in_X2 tyX2 tyX2_ok nmX2 hown hG hw0 rfl 2 (Nat.le_of_ble_eq_true rfl) (hts _ q339) (fun _ h9 => h9) rfl (tyX2_ok 2 (Nat.le_of_ble_eq_true rfl)) rfl rfl (Nat.le_of_ble_eq_true rfl) dX0_rule_111 (fun H locs (hG : gW X F (va_up V 4 (some (wa, oB 2 [.int (zI (wN (aWd a) : Int)), .int (zI (wM (aWd a) : Int)), .int (zI (wRun (aWd a) : Int)), .int (zI (wNeed (aWd a) : Int)), .int (zI (wMar (aWd a) : Int)), .int (wSeed (aWd a)), .ref rv, .ref rk, .ref st]))) (Z) s H locs) => ?_)
                  have hx0 : (va_up V 4 (some (wa, oB 2 [.int (zI (wN (aWd a) : Int)), .int (zI (wM (aWd a) : Int)), .int (zI (wRun (aWd a) : Int)), .int (zI (wNeed (aWd a) : Int)), .int (zI (wMar (aWd a) : Int)), .int (wSeed (aWd a)), .ref rv, .ref rk, .ref st]))) 0 = some (x, oB 0 [.ref sa, .ref rf, .ref tr, .ref kl, .ref wa, va_rf im, .int (zI (aFa a))]) := (vun (by decide)).trans hx0
                  have hx2 : (va_up V 4 (some (wa, oB 2 [.int (zI (wN (aWd a) : Int)), .int (zI (wM (aWd a) : Int)), .int (zI (wRun (aWd a) : Int)), .int (zI (wNeed (aWd a) : Int)), .int (zI (wMar (aWd a) : Int)), .int (wSeed (aWd a)), .ref rv, .ref rk, .ref st]))) 1 = some (rf, aI (gT X 0) 8 gr9) := (vun (by decide)).trans hx2
                  have hw0 : (va_up V 4 (some (wa, oB 2 [.int (zI (wN (aWd a) : Int)), .int (zI (wM (aWd a) : Int)), .int (zI (wRun (aWd a) : Int)), .int (zI (wNeed (aWd a) : Int)), .int (zI (wMar (aWd a) : Int)), .int (wSeed (aWd a)), .ref rv, .ref rk, .ref st]))) 4 = some (wa, oB 2 [.int (zI (wN (aWd a) : Int)), .int (zI (wM (aWd a) : Int)), .int (zI (wRun (aWd a) : Int)), .int (zI (wNeed (aWd a) : Int)), .int (zI (wMar (aWd a) : Int)), .int (wSeed (aWd a)), .ref rv, .ref rk, .ref st]) := vus
                  have hw1 : (va_up V 4 (some (wa, oB 2 [.int (zI (wN (aWd a) : Int)), .int (zI (wM (aWd a) : Int)), .int (zI (wRun (aWd a) : Int)), .int (zI (wNeed (aWd a) : Int)), .int (zI (wMar (aWd a) : Int)), .int (wSeed (aWd a)), .ref rv, .ref rk, .ref st]))) 5 = some (rv, aR (gT X 7) 16 fR) := (vun (by decide)).trans hw1
                  have hw2 : (va_up V 4 (some (wa, oB 2 [.int (zI (wN (aWd a) : Int)), .int (zI (wM (aWd a) : Int)), .int (zI (wRun (aWd a) : Int)), .int (zI (wNeed (aWd a) : Int)), .int (zI (wMar (aWd a) : Int)), .int (wSeed (aWd a)), .ref rv, .ref rk, .ref st]))) 6 = some (rk, aR (gT X 8) 16 fM) := (vun (by decide)).trans hw2
                  have hw3 : (va_up V 4 (some (wa, oB 2 [.int (zI (wN (aWd a) : Int)), .int (zI (wM (aWd a) : Int)), .int (zI (wRun (aWd a) : Int)), .int (zI (wNeed (aWd a) : Int)), .int (zI (wMar (aWd a) : Int)), .int (wSeed (aWd a)), .ref rv, .ref rk, .ref st]))) 7 = some (st, aI (gT X 5) 16 fS) := (vun (by decide)).trans hw3
                  refine lv_aload_n hx hb dX0_rule_114 rfl (lv_at hl 1 rfl) ?_
                  refine g_get (ci := 0) hx hb hts in_X0 hown hG (hG.vo hx0) rfl 4 (Nat.le_of_ble_eq_true rfl) (hts _ q388) (fun _ h9 => h9) rfl dX0_rule_115 ?_
                  refine lv_iload_n hx hb dX0_rule_118 rfl (lv_at hl 2 rfl) ?_
                  refine lv_iconst (v := zI 1) hx hb dX0_rule_119 (by decide +kernel) ?_
                  refine g_cne (tgt := 127) hx hb dX0_rule_120 (by decide) (by omega) (fun hq => ?_) (fun hq => ?_)
                  · exfalso; omega
                  · refine lv_iload_n hx hb dX0_rule_123 rfl (lv_at hl 3 rfl) ?_
                    refine lv_goto (tgt := 134) hx hb dX0_rule_124 (by decide) ?_
                    refine g_putV (ci := 2) hx hb hts in_X2 tyX2 tyX2_ok nmX2 hown hG hw0 rfl 3 (Nat.le_of_ble_eq_true rfl) (hts _ q342) (fun _ h9 => h9) rfl (tyX2_ok 3 (Nat.le_of_ble_eq_true rfl)) rfl rfl (Nat.le_of_ble_eq_true rfl) dX0_rule_134 (fun H locs (hG : gW X F (va_up (va_up V 4 (some (wa, oB 2 [.int (zI (wN (aWd a) : Int)), .int (zI (wM (aWd a) : Int)), .int (zI (wRun (aWd a) : Int)), .int (zI (wNeed (aWd a) : Int)), .int (zI (wMar (aWd a) : Int)), .int (wSeed (aWd a)), .ref rv, .ref rk, .ref st]))) 4 (some (wa, oB 2 [.int (zI (wN (aWd a) : Int)), .int (zI (wM (aWd a) : Int)), .int (zI (wRun (aWd a) : Int)), .int (zI (v1 : Int)), .int (zI (wMar (aWd a) : Int)), .int (wSeed (aWd a)), .ref rv, .ref rk, .ref st]))) (Z) s H locs) => ?_)
                    have hx0 : (va_up (va_up V 4 (some (wa, oB 2 [.int (zI (wN (aWd a) : Int)), .int (zI (wM (aWd a) : Int)), .int (zI (wRun (aWd a) : Int)), .int (zI (wNeed (aWd a) : Int)), .int (zI (wMar (aWd a) : Int)), .int (wSeed (aWd a)), .ref rv, .ref rk, .ref st]))) 4 (some (wa, oB 2 [.int (zI (wN (aWd a) : Int)), .int (zI (wM (aWd a) : Int)), .int (zI (wRun (aWd a) : Int)), .int (zI (v1 : Int)), .int (zI (wMar (aWd a) : Int)), .int (wSeed (aWd a)), .ref rv, .ref rk, .ref st]))) 0 = some (x, oB 0 [.ref sa, .ref rf, .ref tr, .ref kl, .ref wa, va_rf im, .int (zI (aFa a))]) := (vun (by decide)).trans hx0
                    have hx2 : (va_up (va_up V 4 (some (wa, oB 2 [.int (zI (wN (aWd a) : Int)), .int (zI (wM (aWd a) : Int)), .int (zI (wRun (aWd a) : Int)), .int (zI (wNeed (aWd a) : Int)), .int (zI (wMar (aWd a) : Int)), .int (wSeed (aWd a)), .ref rv, .ref rk, .ref st]))) 4 (some (wa, oB 2 [.int (zI (wN (aWd a) : Int)), .int (zI (wM (aWd a) : Int)), .int (zI (wRun (aWd a) : Int)), .int (zI (v1 : Int)), .int (zI (wMar (aWd a) : Int)), .int (wSeed (aWd a)), .ref rv, .ref rk, .ref st]))) 1 = some (rf, aI (gT X 0) 8 gr9) := (vun (by decide)).trans hx2
                    have hw0 : (va_up (va_up V 4 (some (wa, oB 2 [.int (zI (wN (aWd a) : Int)), .int (zI (wM (aWd a) : Int)), .int (zI (wRun (aWd a) : Int)), .int (zI (wNeed (aWd a) : Int)), .int (zI (wMar (aWd a) : Int)), .int (wSeed (aWd a)), .ref rv, .ref rk, .ref st]))) 4 (some (wa, oB 2 [.int (zI (wN (aWd a) : Int)), .int (zI (wM (aWd a) : Int)), .int (zI (wRun (aWd a) : Int)), .int (zI (v1 : Int)), .int (zI (wMar (aWd a) : Int)), .int (wSeed (aWd a)), .ref rv, .ref rk, .ref st]))) 4 = some (wa, oB 2 [.int (zI (wN (aWd a) : Int)), .int (zI (wM (aWd a) : Int)), .int (zI (wRun (aWd a) : Int)), .int (zI (v1 : Int)), .int (zI (wMar (aWd a) : Int)), .int (wSeed (aWd a)), .ref rv, .ref rk, .ref st]) := vus
                    have hw1 : (va_up (va_up V 4 (some (wa, oB 2 [.int (zI (wN (aWd a) : Int)), .int (zI (wM (aWd a) : Int)), .int (zI (wRun (aWd a) : Int)), .int (zI (wNeed (aWd a) : Int)), .int (zI (wMar (aWd a) : Int)), .int (wSeed (aWd a)), .ref rv, .ref rk, .ref st]))) 4 (some (wa, oB 2 [.int (zI (wN (aWd a) : Int)), .int (zI (wM (aWd a) : Int)), .int (zI (wRun (aWd a) : Int)), .int (zI (v1 : Int)), .int (zI (wMar (aWd a) : Int)), .int (wSeed (aWd a)), .ref rv, .ref rk, .ref st]))) 5 = some (rv, aR (gT X 7) 16 fR) := (vun (by decide)).trans hw1
                    have hw2 : (va_up (va_up V 4 (some (wa, oB 2 [.int (zI (wN (aWd a) : Int)), .int (zI (wM (aWd a) : Int)), .int (zI (wRun (aWd a) : Int)), .int (zI (wNeed (aWd a) : Int)), .int (zI (wMar (aWd a) : Int)), .int (wSeed (aWd a)), .ref rv, .ref rk, .ref st]))) 4 (some (wa, oB 2 [.int (zI (wN (aWd a) : Int)), .int (zI (wM (aWd a) : Int)), .int (zI (wRun (aWd a) : Int)), .int (zI (v1 : Int)), .int (zI (wMar (aWd a) : Int)), .int (wSeed (aWd a)), .ref rv, .ref rk, .ref st]))) 6 = some (rk, aR (gT X 8) 16 fM) := (vun (by decide)).trans hw2
                    have hw3 : (va_up (va_up V 4 (some (wa, oB 2 [.int (zI (wN (aWd a) : Int)), .int (zI (wM (aWd a) : Int)), .int (zI (wRun (aWd a) : Int)), .int (zI (wNeed (aWd a) : Int)), .int (zI (wMar (aWd a) : Int)), .int (wSeed (aWd a)), .ref rv, .ref rk, .ref st]))) 4 (some (wa, oB 2 [.int (zI (wN (aWd a) : Int)), .int (zI (wM (aWd a) : Int)), .int (zI (wRun (aWd a) : Int)), .int (zI (v1 : Int)), .int (zI (wMar (aWd a) : Int)), .int (wSeed (aWd a)), .ref rv, .ref rk, .ref st]))) 7 = some (st, aI (gT X 5) 16 fS) := (vun (by decide)).trans hw3
                    refine lv_aload_n hx hb dX0_rule_137 rfl (lv_at hl 1 rfl) ?_
                    refine g_get (ci := 0) hx hb hts in_X0 hown hG (hG.vo hx0) rfl 4 (Nat.le_of_ble_eq_true rfl) (hts _ q388) (fun _ h9 => h9) rfl dX0_rule_138 ?_
                    refine lv_iload_n hx hb dX0_rule_141 rfl (lv_at hl 2 rfl) ?_
                    refine lv_iconst (v := zI 2) hx hb dX0_rule_142 (by decide +kernel) ?_
                    refine g_cne (tgt := 150) hx hb dX0_rule_143 (by decide) (by omega) (fun hq => ?_) (fun hq => ?_)
                    · refine lv_aload_n hx hb dX0_rule_150 rfl (lv_at hl 1 rfl) ?_
                      refine g_get (ci := 0) hx hb hts in_X0 hown hG (hG.vo hx0) rfl 4 (Nat.le_of_ble_eq_true rfl) (hts _ q388) (fun _ h9 => h9) rfl dX0_rule_151 ?_
                      refine g_get (ci := 2) hx hb hts in_X2 hown hG (hG.vo hw0) rfl 4 (Nat.le_of_ble_eq_true rfl) (hts _ q345) (fun _ h9 => h9) rfl dX0_rule_154 ?_
                      refine g_putV (ci := 2) hx hb hts in_X2 tyX2 tyX2_ok nmX2 hown hG hw0 rfl 4 (Nat.le_of_ble_eq_true rfl) (hts _ q345) (fun _ h9 => h9) rfl (tyX2_ok 4 (Nat.le_of_ble_eq_true rfl)) rfl rfl (Nat.le_of_ble_eq_true rfl) dX0_rule_157 (fun H locs (hG : gW X F (va_up (va_up (va_up V 4 (some (wa, oB 2 [.int (zI (wN (aWd a) : Int)), .int (zI (wM (aWd a) : Int)), .int (zI (wRun (aWd a) : Int)), .int (zI (wNeed (aWd a) : Int)), .int (zI (wMar (aWd a) : Int)), .int (wSeed (aWd a)), .ref rv, .ref rk, .ref st]))) 4 (some (wa, oB 2 [.int (zI (wN (aWd a) : Int)), .int (zI (wM (aWd a) : Int)), .int (zI (wRun (aWd a) : Int)), .int (zI (v1 : Int)), .int (zI (wMar (aWd a) : Int)), .int (wSeed (aWd a)), .ref rv, .ref rk, .ref st]))) 4 (some (wa, oB 2 [.int (zI (wN (aWd a) : Int)), .int (zI (wM (aWd a) : Int)), .int (zI (wRun (aWd a) : Int)), .int (zI (v1 : Int)), .int (zI (wMar (aWd a) : Int)), .int (wSeed (aWd a)), .ref rv, .ref rk, .ref st]))) (Z) s H locs) => ?_)
                      have hx0 : (va_up (va_up (va_up V 4 (some (wa, oB 2 [.int (zI (wN (aWd a) : Int)), .int (zI (wM (aWd a) : Int)), .int (zI (wRun (aWd a) : Int)), .int (zI (wNeed (aWd a) : Int)), .int (zI (wMar (aWd a) : Int)), .int (wSeed (aWd a)), .ref rv, .ref rk, .ref st]))) 4 (some (wa, oB 2 [.int (zI (wN (aWd a) : Int)), .int (zI (wM (aWd a) : Int)), .int (zI (wRun (aWd a) : Int)), .int (zI (v1 : Int)), .int (zI (wMar (aWd a) : Int)), .int (wSeed (aWd a)), .ref rv, .ref rk, .ref st]))) 4 (some (wa, oB 2 [.int (zI (wN (aWd a) : Int)), .int (zI (wM (aWd a) : Int)), .int (zI (wRun (aWd a) : Int)), .int (zI (v1 : Int)), .int (zI (wMar (aWd a) : Int)), .int (wSeed (aWd a)), .ref rv, .ref rk, .ref st]))) 0 = some (x, oB 0 [.ref sa, .ref rf, .ref tr, .ref kl, .ref wa, va_rf im, .int (zI (aFa a))]) := (vun (by decide)).trans hx0
                      have hx2 : (va_up (va_up (va_up V 4 (some (wa, oB 2 [.int (zI (wN (aWd a) : Int)), .int (zI (wM (aWd a) : Int)), .int (zI (wRun (aWd a) : Int)), .int (zI (wNeed (aWd a) : Int)), .int (zI (wMar (aWd a) : Int)), .int (wSeed (aWd a)), .ref rv, .ref rk, .ref st]))) 4 (some (wa, oB 2 [.int (zI (wN (aWd a) : Int)), .int (zI (wM (aWd a) : Int)), .int (zI (wRun (aWd a) : Int)), .int (zI (v1 : Int)), .int (zI (wMar (aWd a) : Int)), .int (wSeed (aWd a)), .ref rv, .ref rk, .ref st]))) 4 (some (wa, oB 2 [.int (zI (wN (aWd a) : Int)), .int (zI (wM (aWd a) : Int)), .int (zI (wRun (aWd a) : Int)), .int (zI (v1 : Int)), .int (zI (wMar (aWd a) : Int)), .int (wSeed (aWd a)), .ref rv, .ref rk, .ref st]))) 1 = some (rf, aI (gT X 0) 8 gr9) := (vun (by decide)).trans hx2
                      have hw0 : (va_up (va_up (va_up V 4 (some (wa, oB 2 [.int (zI (wN (aWd a) : Int)), .int (zI (wM (aWd a) : Int)), .int (zI (wRun (aWd a) : Int)), .int (zI (wNeed (aWd a) : Int)), .int (zI (wMar (aWd a) : Int)), .int (wSeed (aWd a)), .ref rv, .ref rk, .ref st]))) 4 (some (wa, oB 2 [.int (zI (wN (aWd a) : Int)), .int (zI (wM (aWd a) : Int)), .int (zI (wRun (aWd a) : Int)), .int (zI (v1 : Int)), .int (zI (wMar (aWd a) : Int)), .int (wSeed (aWd a)), .ref rv, .ref rk, .ref st]))) 4 (some (wa, oB 2 [.int (zI (wN (aWd a) : Int)), .int (zI (wM (aWd a) : Int)), .int (zI (wRun (aWd a) : Int)), .int (zI (v1 : Int)), .int (zI (wMar (aWd a) : Int)), .int (wSeed (aWd a)), .ref rv, .ref rk, .ref st]))) 4 = some (wa, oB 2 [.int (zI (wN (aWd a) : Int)), .int (zI (wM (aWd a) : Int)), .int (zI (wRun (aWd a) : Int)), .int (zI (v1 : Int)), .int (zI (wMar (aWd a) : Int)), .int (wSeed (aWd a)), .ref rv, .ref rk, .ref st]) := vus
                      have hw1 : (va_up (va_up (va_up V 4 (some (wa, oB 2 [.int (zI (wN (aWd a) : Int)), .int (zI (wM (aWd a) : Int)), .int (zI (wRun (aWd a) : Int)), .int (zI (wNeed (aWd a) : Int)), .int (zI (wMar (aWd a) : Int)), .int (wSeed (aWd a)), .ref rv, .ref rk, .ref st]))) 4 (some (wa, oB 2 [.int (zI (wN (aWd a) : Int)), .int (zI (wM (aWd a) : Int)), .int (zI (wRun (aWd a) : Int)), .int (zI (v1 : Int)), .int (zI (wMar (aWd a) : Int)), .int (wSeed (aWd a)), .ref rv, .ref rk, .ref st]))) 4 (some (wa, oB 2 [.int (zI (wN (aWd a) : Int)), .int (zI (wM (aWd a) : Int)), .int (zI (wRun (aWd a) : Int)), .int (zI (v1 : Int)), .int (zI (wMar (aWd a) : Int)), .int (wSeed (aWd a)), .ref rv, .ref rk, .ref st]))) 5 = some (rv, aR (gT X 7) 16 fR) := (vun (by decide)).trans hw1
                      have hw2 : (va_up (va_up (va_up V 4 (some (wa, oB 2 [.int (zI (wN (aWd a) : Int)), .int (zI (wM (aWd a) : Int)), .int (zI (wRun (aWd a) : Int)), .int (zI (wNeed (aWd a) : Int)), .int (zI (wMar (aWd a) : Int)), .int (wSeed (aWd a)), .ref rv, .ref rk, .ref st]))) 4 (some (wa, oB 2 [.int (zI (wN (aWd a) : Int)), .int (zI (wM (aWd a) : Int)), .int (zI (wRun (aWd a) : Int)), .int (zI (v1 : Int)), .int (zI (wMar (aWd a) : Int)), .int (wSeed (aWd a)), .ref rv, .ref rk, .ref st]))) 4 (some (wa, oB 2 [.int (zI (wN (aWd a) : Int)), .int (zI (wM (aWd a) : Int)), .int (zI (wRun (aWd a) : Int)), .int (zI (v1 : Int)), .int (zI (wMar (aWd a) : Int)), .int (wSeed (aWd a)), .ref rv, .ref rk, .ref st]))) 6 = some (rk, aR (gT X 8) 16 fM) := (vun (by decide)).trans hw2
                      have hw3 : (va_up (va_up (va_up V 4 (some (wa, oB 2 [.int (zI (wN (aWd a) : Int)), .int (zI (wM (aWd a) : Int)), .int (zI (wRun (aWd a) : Int)), .int (zI (wNeed (aWd a) : Int)), .int (zI (wMar (aWd a) : Int)), .int (wSeed (aWd a)), .ref rv, .ref rk, .ref st]))) 4 (some (wa, oB 2 [.int (zI (wN (aWd a) : Int)), .int (zI (wM (aWd a) : Int)), .int (zI (wRun (aWd a) : Int)), .int (zI (v1 : Int)), .int (zI (wMar (aWd a) : Int)), .int (wSeed (aWd a)), .ref rv, .ref rk, .ref st]))) 4 (some (wa, oB 2 [.int (zI (wN (aWd a) : Int)), .int (zI (wM (aWd a) : Int)), .int (zI (wRun (aWd a) : Int)), .int (zI (v1 : Int)), .int (zI (wMar (aWd a) : Int)), .int (wSeed (aWd a)), .ref rv, .ref rk, .ref st]))) 7 = some (st, aI (gT X 5) 16 fS) := (vun (by decide)).trans hw3
                      refine lv_iload_n hx hb dX0_rule_160 rfl (lv_at hl 0 rfl) ?_
                      have hW9 : xWd X F (va_up (va_up (va_up V 4 (some (wa, oB 2 [.int (zI (wN (aWd a) : Int)), .int (zI (wM (aWd a) : Int)), .int (zI (wRun (aWd a) : Int)), .int (zI (wNeed (aWd a) : Int)), .int (zI (wMar (aWd a) : Int)), .int (wSeed (aWd a)), .ref rv, .ref rk, .ref st]))) 4 (some (wa, oB 2 [.int (zI (wN (aWd a) : Int)), .int (zI (wM (aWd a) : Int)), .int (zI (wRun (aWd a) : Int)), .int (zI (v1 : Int)), .int (zI (wMar (aWd a) : Int)), .int (wSeed (aWd a)), .ref rv, .ref rk, .ref st]))) 4 (some (wa, oB 2 [.int (zI (wN (aWd a) : Int)), .int (zI (wM (aWd a) : Int)), .int (zI (wRun (aWd a) : Int)), .int (zI (v1 : Int)), .int (zI (wMar (aWd a) : Int)), .int (wSeed (aWd a)), .ref rv, .ref rk, .ref st]))) 4 (wRule (aWd a) 1 (v1 : Int)) wa rv rk st ra la ma := ⟨hw0, ⟨fR, hw1, hwR⟩, ⟨fM, hw2, hwM⟩, ⟨fS, hw3, hwS⟩, hR, hMk⟩
                      refine vx_ret ?_
                      exact g_iret hx hb hr hlocks hG (by have e9 : opRule a 1 (v1 : Int) = (((wNeed (aWd a) : Nat) : Int), aSetW a (wRule (aWd a) 1 (v1 : Int))) := (by unfold opRule; rw [if_neg (by simp; omega)]; first | done | rfl); rw [e9]; exact ⟨(gLe.rfl (V := V)), rfl, ((hS.setW hA (fun r9 h8 h9 => by repeat (first | rfl | refine (va_up_ne _ _ (by omega)).trans ?_)) hW9 (fun _ _ => rfl))).ex, rfl⟩) ⟨by show _ ≤ 8; omega, by show _ ≤ 400; omega⟩ dX0_rule_161
                    · exfalso; omega
                · exfalso; omega
            · exfalso; omega
        · exfalso; omega
      · refine g_ne (tgt := 30) hx hb dX0_rule_15 (by decide) (by decide) (fun hq => ?_) (fun hq => ?_)
        · refine lv_iload_n hx hb dX0_rule_30 rfl (lv_at hl 2 rfl) ?_
          refine g_i2l hx hb dX0_rule_31 (by omega) ?_
          refine lv_lconst (v := zL 0) hx hb dX0_rule_32 (by decide +kernel) ?_
          refine lv_iload_n hx hb dX0_rule_33 rfl (lv_at hl 1 rfl) ?_
          refine lv_iconst (v := zI 1) hx hb dX0_rule_34 (by decide +kernel) ?_
          refine g_cne (tgt := 44) hx hb dX0_rule_35 (by decide) (by omega) (fun hq => ?_) (fun hq => ?_)
          · exfalso; omega
          · refine lv_ldc2 (v := 99) hx hb hown (hts _ q1774) dX0_rule_38 ?_
            refine g_topv (y := .long (zL 99)) (congrArg Value.long (by decide +kernel)) ?_
            refine lv_goto (tgt := 47) hx hb dX0_rule_41 (by decide) ?_
            refine g_ci (va_runS (As := [.long (zL v), .long (zL 0), .long (zL 99)]) (rest := []) ⟨hx, hb, hml, hown, hts⟩ (metX0_in (a9 := v) (b9 := 0) (c9 := 99) (by omega)) (va_cwS 3 hts (lw_S q524 q525 q87 q526) rfl rfl rfl (by decide +kernel) ⟨Nat.le_of_ble_eq_true rfl, Nat.le_of_ble_eq_true rfl⟩) (g_preS hG) rfl rfl hl.1 rfl (lv_room (Nat.le_of_ble_eq_true rfl)) dX0_rule_47 ⟨by show _ ≤ 8; omega, by show _ ≤ 400; omega⟩) hG (fun r_32 F_33 V_34 ws_ H locs hp hG => ?_)
            obtain ⟨rfl, rfl, rfl, rfl⟩ := hp
            have hG : gW X F V (Z) s H locs := hG
            refine g_topz (y := 0) (by rw [decide_eq_false (by omega)]; rfl) ?_
            refine lv_bipush (v := zI (-6)) hx hb dX0_rule_50 (by decide +kernel) ?_
            refine g_xv (vx_runS (As := [.int (zI 0), .int (zI (-6))]) (rest := []) ⟨hx, hb, hml, hown, hts⟩ (metX0_need_f (k := 6)) (va_cwS 2 hts (lw_S q520 q521 q87 q522) rfl rfl rfl (by decide +kernel) ⟨Nat.le_of_ble_eq_true rfl, Nat.le_of_ble_eq_true rfl⟩) (g_preS hG) rfl rfl hl.1 rfl (lv_room (Nat.le_of_ble_eq_true rfl)) dX0_rule_52 ⟨by show _ ≤ 8; omega, by show _ ≤ 400; omega⟩) hG (fun E9 ce9 q9 Fx_38 Vx_39 ws_ H locs hpx hG hce => ?_) (fun F_36 V_37 ws_ H locs hp hG => ?_)
            · obtain ⟨rfl, hle_Fx_38, hq9, rfl, rfl⟩ := hpx
              have hG : gW X Fx_38 V (Z) s H locs := hG
              refine g_catch (name := "LineRemarks$Refused") hown htab [] ⟨0, 161, 162, 21⟩ [] rfl (fun z9 hz9 => absurd hz9 List.not_mem_nil) (by decide) (by decide) (hts _ q410) (hG.1.2.1.1 _ qn498) hce ?_
              refine lv_astore_n (lv' := [(3, .ref q9), (0, .ref x), (1, .int (zI 1)), (2, .int (zI v))]) hx hb dX0_rule_162 rfl hl (by decide) rfl (fun ls hl => ?_)
              refine lv_aload_n hx hb dX0_rule_163 rfl (lv_at hl 1 rfl) ?_
              refine lv_aload_n hx hb dX0_rule_164 rfl (lv_at hl 0 rfl) ?_
              refine g_ci (va_runV (As := [.ref q9]) (rest := []) ⟨hx, hb, hml, hown, hts⟩ (metX0_refused (k := 6) (hS.mono hle_Fx_38) hA hq9 (by decide)) (cwV 1 hts (lw_V q589 q591 qs2 q87 q592) rfl rfl rfl (by decide +kernel) ⟨Nat.le_of_ble_eq_true rfl, Nat.le_of_ble_eq_true rfl⟩) (g_preV hG (g_recv hG (hG.vo hx0) (ci := 0) rfl)) rfl rfl hl.1 rfl (lv_room (Nat.le_of_ble_eq_true rfl)) dX0_rule_165 ⟨by show _ ≤ 8; omega, by show _ ≤ 400; omega⟩) hG (fun r_40 F_41 V_42 ws_ H locs hp hG => ?_)
              obtain ⟨rfl, rfl, hS9, rfl⟩ := hp
              have hG : gW X Fx_38 V_42 (Z) s H locs := hG
              refine vx_ret ?_
              exact g_iret hx hb hr hlocks hG (by have e9 : opRule a 1 v = aNoR a 6 := (by unfold opRule; rw [if_pos (by simp; omega)]; first | done | rfl); rw [e9]; exact ⟨hle_Fx_38, rfl, hS9.ex, rfl⟩) ⟨by show _ ≤ 8; omega, by show _ ≤ 400; omega⟩ dX0_rule_168
            exact hp.elim
        · exfalso; omega
    · have hs_43 : 2 = k := by omega
      subst hs_43
      refine lv_iload_n hx hb dX0_rule_14 rfl (lv_at hl 1 rfl) ?_
      by_cases hv9 : 0 ≤ v ∧ v ≤ 20
      · refine g_ne (tgt := 30) hx hb dX0_rule_15 (by decide) (by decide) (fun hq => ?_) (fun hq => ?_)
        · refine lv_iload_n hx hb dX0_rule_30 rfl (lv_at hl 2 rfl) ?_
          refine g_i2l hx hb dX0_rule_31 (by omega) ?_
          refine lv_lconst (v := zL 0) hx hb dX0_rule_32 (by decide +kernel) ?_
          refine lv_iload_n hx hb dX0_rule_33 rfl (lv_at hl 1 rfl) ?_
          refine lv_iconst (v := zI 1) hx hb dX0_rule_34 (by decide +kernel) ?_
          refine g_cne (tgt := 44) hx hb dX0_rule_35 (by decide) (by omega) (fun hq => ?_) (fun hq => ?_)
          · refine lv_ldc2 (v := 20) hx hb hown (hts _ q1775) dX0_rule_44 ?_
            refine g_topv (y := .long (zL 20)) (congrArg Value.long (by decide +kernel)) ?_
            refine g_ci (va_runS (As := [.long (zL v), .long (zL 0), .long (zL 20)]) (rest := []) ⟨hx, hb, hml, hown, hts⟩ (metX0_in (a9 := v) (b9 := 0) (c9 := 20) (by omega)) (va_cwS 3 hts (lw_S q524 q525 q87 q526) rfl rfl rfl (by decide +kernel) ⟨Nat.le_of_ble_eq_true rfl, Nat.le_of_ble_eq_true rfl⟩) (g_preS hG) rfl rfl hl.1 rfl (lv_room (Nat.le_of_ble_eq_true rfl)) dX0_rule_47 ⟨by show _ ≤ 8; omega, by show _ ≤ 400; omega⟩) hG (fun r_44 F_45 V_46 ws_ H locs hp hG => ?_)
            obtain ⟨rfl, rfl, rfl, rfl⟩ := hp
            have hG : gW X F V (Z) s H locs := hG
            refine g_topz (y := 1) (by rw [decide_eq_true (by omega)]; rfl) ?_
            refine lv_bipush (v := zI (-6)) hx hb dX0_rule_50 (by decide +kernel) ?_
            refine g_cv (va_runS (As := [.int (zI 1), .int (zI (-6))]) (rest := []) ⟨hx, hb, hml, hown, hts⟩ (metX0_need_t (b := 1) (by decide)) (va_cwS 2 hts (lw_S q520 q521 q87 q522) rfl rfl rfl (by decide +kernel) ⟨Nat.le_of_ble_eq_true rfl, Nat.le_of_ble_eq_true rfl⟩) (g_preS hG) rfl rfl hl.1 rfl (lv_room (Nat.le_of_ble_eq_true rfl)) dX0_rule_52 ⟨by show _ ≤ 8; omega, by show _ ≤ 400; omega⟩) hG (fun F_48 V_49 ws_ H locs hp hG => ?_)
            obtain ⟨rfl, rfl, rfl⟩ := hp
            have hG : gW X F V (Z) s H locs := hG
            obtain ⟨v1, rfl⟩ : ∃ z : Nat, v = (z : Int) := ⟨v.toNat, by omega⟩
            refine lv_iload_n hx hb dX0_rule_55 rfl (lv_at hl 1 rfl) ?_
            refine g_ne (tgt := 69) hx hb dX0_rule_56 (by decide) (by decide) (fun hq => ?_) (fun hq => ?_)
            · refine lv_iload_n hx hb dX0_rule_69 rfl (lv_at hl 1 rfl) ?_
              refine lv_iconst (v := zI 1) hx hb dX0_rule_70 (by decide +kernel) ?_
              refine g_cne (tgt := 84) hx hb dX0_rule_71 (by decide) (by omega) (fun hq => ?_) (fun hq => ?_)
              · refine lv_aload_n hx hb dX0_rule_84 rfl (lv_at hl 0 rfl) ?_
                refine g_get (ci := 0) hx hb hts in_X0 hown hG (hG.vo hx0) rfl 4 (Nat.le_of_ble_eq_true rfl) (hts _ q388) (fun _ h9 => h9) rfl dX0_rule_85 ?_
                refine g_get (ci := 2) hx hb hts in_X2 hown hG (hG.vo hw0) rfl 4 (Nat.le_of_ble_eq_true rfl) (hts _ q345) (fun _ h9 => h9) rfl dX0_rule_88 ?_
                refine lv_istore_n (lv' := [(3, .int (zI (wMar (aWd a) : Int))), (0, .ref x), (1, .int (zI 2)), (2, .int (zI (v1 : Int)))]) hx hb dX0_rule_91 rfl hl (by decide) rfl (fun ls hl => ?_)
                refine lv_aload_n hx hb dX0_rule_92 rfl (lv_at hl 1 rfl) ?_
                refine g_get (ci := 0) hx hb hts in_X0 hown hG (hG.vo hx0) rfl 4 (Nat.le_of_ble_eq_true rfl) (hts _ q388) (fun _ h9 => h9) rfl dX0_rule_93 ?_
                refine lv_iload_n hx hb dX0_rule_96 rfl (lv_at hl 2 rfl) ?_
                refine g_ne (tgt := 104) hx hb dX0_rule_97 (by decide) (by decide) (fun hq => ?_) (fun hq => ?_)
                · refine lv_aload_n hx hb dX0_rule_104 rfl (lv_at hl 1 rfl) ?_
                  refine g_get (ci := 0) hx hb hts in_X0 hown hG (hG.vo hx0) rfl 4 (Nat.le_of_ble_eq_true rfl) (hts _ q388) (fun _ h9 => h9) rfl dX0_rule_105 ?_
                  refine g_get (ci := 2) hx hb hts in_X2 hown hG (hG.vo hw0) rfl 2 (Nat.le_of_ble_eq_true rfl) (hts _ q339) (fun _ h9 => h9) rfl dX0_rule_108 ?_
                  refine g_putV (ci := 2) hx hb hts in_X2 tyX2 tyX2_ok nmX2 hown hG hw0 rfl 2 (Nat.le_of_ble_eq_true rfl) (hts _ q339) (fun _ h9 => h9) rfl (tyX2_ok 2 (Nat.le_of_ble_eq_true rfl)) rfl rfl (Nat.le_of_ble_eq_true rfl) dX0_rule_111 (fun H locs (hG : gW X F (va_up V 4 (some (wa, oB 2 [.int (zI (wN (aWd a) : Int)), .int (zI (wM (aWd a) : Int)), .int (zI (wRun (aWd a) : Int)), .int (zI (wNeed (aWd a) : Int)), .int (zI (wMar (aWd a) : Int)), .int (wSeed (aWd a)), .ref rv, .ref rk, .ref st]))) (Z) s H locs) => ?_)
                  have hx0 : (va_up V 4 (some (wa, oB 2 [.int (zI (wN (aWd a) : Int)), .int (zI (wM (aWd a) : Int)), .int (zI (wRun (aWd a) : Int)), .int (zI (wNeed (aWd a) : Int)), .int (zI (wMar (aWd a) : Int)), .int (wSeed (aWd a)), .ref rv, .ref rk, .ref st]))) 0 = some (x, oB 0 [.ref sa, .ref rf, .ref tr, .ref kl, .ref wa, va_rf im, .int (zI (aFa a))]) := (vun (by decide)).trans hx0
                  have hx2 : (va_up V 4 (some (wa, oB 2 [.int (zI (wN (aWd a) : Int)), .int (zI (wM (aWd a) : Int)), .int (zI (wRun (aWd a) : Int)), .int (zI (wNeed (aWd a) : Int)), .int (zI (wMar (aWd a) : Int)), .int (wSeed (aWd a)), .ref rv, .ref rk, .ref st]))) 1 = some (rf, aI (gT X 0) 8 gr9) := (vun (by decide)).trans hx2
                  have hw0 : (va_up V 4 (some (wa, oB 2 [.int (zI (wN (aWd a) : Int)), .int (zI (wM (aWd a) : Int)), .int (zI (wRun (aWd a) : Int)), .int (zI (wNeed (aWd a) : Int)), .int (zI (wMar (aWd a) : Int)), .int (wSeed (aWd a)), .ref rv, .ref rk, .ref st]))) 4 = some (wa, oB 2 [.int (zI (wN (aWd a) : Int)), .int (zI (wM (aWd a) : Int)), .int (zI (wRun (aWd a) : Int)), .int (zI (wNeed (aWd a) : Int)), .int (zI (wMar (aWd a) : Int)), .int (wSeed (aWd a)), .ref rv, .ref rk, .ref st]) := vus
                  have hw1 : (va_up V 4 (some (wa, oB 2 [.int (zI (wN (aWd a) : Int)), .int (zI (wM (aWd a) : Int)), .int (zI (wRun (aWd a) : Int)), .int (zI (wNeed (aWd a) : Int)), .int (zI (wMar (aWd a) : Int)), .int (wSeed (aWd a)), .ref rv, .ref rk, .ref st]))) 5 = some (rv, aR (gT X 7) 16 fR) := (vun (by decide)).trans hw1
                  have hw2 : (va_up V 4 (some (wa, oB 2 [.int (zI (wN (aWd a) : Int)), .int (zI (wM (aWd a) : Int)), .int (zI (wRun (aWd a) : Int)), .int (zI (wNeed (aWd a) : Int)), .int (zI (wMar (aWd a) : Int)), .int (wSeed (aWd a)), .ref rv, .ref rk, .ref st]))) 6 = some (rk, aR (gT X 8) 16 fM) := (vun (by decide)).trans hw2
                  have hw3 : (va_up V 4 (some (wa, oB 2 [.int (zI (wN (aWd a) : Int)), .int (zI (wM (aWd a) : Int)), .int (zI (wRun (aWd a) : Int)), .int (zI (wNeed (aWd a) : Int)), .int (zI (wMar (aWd a) : Int)), .int (wSeed (aWd a)), .ref rv, .ref rk, .ref st]))) 7 = some (st, aI (gT X 5) 16 fS) := (vun (by decide)).trans hw3
                  refine lv_aload_n hx hb dX0_rule_114 rfl (lv_at hl 1 rfl) ?_
                  refine g_get (ci := 0) hx hb hts in_X0 hown hG (hG.vo hx0) rfl 4 (Nat.le_of_ble_eq_true rfl) (hts _ q388) (fun _ h9 => h9) rfl dX0_rule_115 ?_
                  refine lv_iload_n hx hb dX0_rule_118 rfl (lv_at hl 2 rfl) ?_
                  refine lv_iconst (v := zI 1) hx hb dX0_rule_119 (by decide +kernel) ?_
                  refine g_cne (tgt := 127) hx hb dX0_rule_120 (by decide) (by omega) (fun hq => ?_) (fun hq => ?_)
                  · refine lv_aload_n hx hb dX0_rule_127 rfl (lv_at hl 1 rfl) ?_
                    refine g_get (ci := 0) hx hb hts in_X0 hown hG (hG.vo hx0) rfl 4 (Nat.le_of_ble_eq_true rfl) (hts _ q388) (fun _ h9 => h9) rfl dX0_rule_128 ?_
                    refine g_get (ci := 2) hx hb hts in_X2 hown hG (hG.vo hw0) rfl 3 (Nat.le_of_ble_eq_true rfl) (hts _ q342) (fun _ h9 => h9) rfl dX0_rule_131 ?_
                    refine g_putV (ci := 2) hx hb hts in_X2 tyX2 tyX2_ok nmX2 hown hG hw0 rfl 3 (Nat.le_of_ble_eq_true rfl) (hts _ q342) (fun _ h9 => h9) rfl (tyX2_ok 3 (Nat.le_of_ble_eq_true rfl)) rfl rfl (Nat.le_of_ble_eq_true rfl) dX0_rule_134 (fun H locs (hG : gW X F (va_up (va_up V 4 (some (wa, oB 2 [.int (zI (wN (aWd a) : Int)), .int (zI (wM (aWd a) : Int)), .int (zI (wRun (aWd a) : Int)), .int (zI (wNeed (aWd a) : Int)), .int (zI (wMar (aWd a) : Int)), .int (wSeed (aWd a)), .ref rv, .ref rk, .ref st]))) 4 (some (wa, oB 2 [.int (zI (wN (aWd a) : Int)), .int (zI (wM (aWd a) : Int)), .int (zI (wRun (aWd a) : Int)), .int (zI (wNeed (aWd a) : Int)), .int (zI (wMar (aWd a) : Int)), .int (wSeed (aWd a)), .ref rv, .ref rk, .ref st]))) (Z) s H locs) => ?_)
                    have hx0 : (va_up (va_up V 4 (some (wa, oB 2 [.int (zI (wN (aWd a) : Int)), .int (zI (wM (aWd a) : Int)), .int (zI (wRun (aWd a) : Int)), .int (zI (wNeed (aWd a) : Int)), .int (zI (wMar (aWd a) : Int)), .int (wSeed (aWd a)), .ref rv, .ref rk, .ref st]))) 4 (some (wa, oB 2 [.int (zI (wN (aWd a) : Int)), .int (zI (wM (aWd a) : Int)), .int (zI (wRun (aWd a) : Int)), .int (zI (wNeed (aWd a) : Int)), .int (zI (wMar (aWd a) : Int)), .int (wSeed (aWd a)), .ref rv, .ref rk, .ref st]))) 0 = some (x, oB 0 [.ref sa, .ref rf, .ref tr, .ref kl, .ref wa, va_rf im, .int (zI (aFa a))]) := (vun (by decide)).trans hx0
                    have hx2 : (va_up (va_up V 4 (some (wa, oB 2 [.int (zI (wN (aWd a) : Int)), .int (zI (wM (aWd a) : Int)), .int (zI (wRun (aWd a) : Int)), .int (zI (wNeed (aWd a) : Int)), .int (zI (wMar (aWd a) : Int)), .int (wSeed (aWd a)), .ref rv, .ref rk, .ref st]))) 4 (some (wa, oB 2 [.int (zI (wN (aWd a) : Int)), .int (zI (wM (aWd a) : Int)), .int (zI (wRun (aWd a) : Int)), .int (zI (wNeed (aWd a) : Int)), .int (zI (wMar (aWd a) : Int)), .int (wSeed (aWd a)), .ref rv, .ref rk, .ref st]))) 1 = some (rf, aI (gT X 0) 8 gr9) := (vun (by decide)).trans hx2
                    have hw0 : (va_up (va_up V 4 (some (wa, oB 2 [.int (zI (wN (aWd a) : Int)), .int (zI (wM (aWd a) : Int)), .int (zI (wRun (aWd a) : Int)), .int (zI (wNeed (aWd a) : Int)), .int (zI (wMar (aWd a) : Int)), .int (wSeed (aWd a)), .ref rv, .ref rk, .ref st]))) 4 (some (wa, oB 2 [.int (zI (wN (aWd a) : Int)), .int (zI (wM (aWd a) : Int)), .int (zI (wRun (aWd a) : Int)), .int (zI (wNeed (aWd a) : Int)), .int (zI (wMar (aWd a) : Int)), .int (wSeed (aWd a)), .ref rv, .ref rk, .ref st]))) 4 = some (wa, oB 2 [.int (zI (wN (aWd a) : Int)), .int (zI (wM (aWd a) : Int)), .int (zI (wRun (aWd a) : Int)), .int (zI (wNeed (aWd a) : Int)), .int (zI (wMar (aWd a) : Int)), .int (wSeed (aWd a)), .ref rv, .ref rk, .ref st]) := vus
                    have hw1 : (va_up (va_up V 4 (some (wa, oB 2 [.int (zI (wN (aWd a) : Int)), .int (zI (wM (aWd a) : Int)), .int (zI (wRun (aWd a) : Int)), .int (zI (wNeed (aWd a) : Int)), .int (zI (wMar (aWd a) : Int)), .int (wSeed (aWd a)), .ref rv, .ref rk, .ref st]))) 4 (some (wa, oB 2 [.int (zI (wN (aWd a) : Int)), .int (zI (wM (aWd a) : Int)), .int (zI (wRun (aWd a) : Int)), .int (zI (wNeed (aWd a) : Int)), .int (zI (wMar (aWd a) : Int)), .int (wSeed (aWd a)), .ref rv, .ref rk, .ref st]))) 5 = some (rv, aR (gT X 7) 16 fR) := (vun (by decide)).trans hw1
                    have hw2 : (va_up (va_up V 4 (some (wa, oB 2 [.int (zI (wN (aWd a) : Int)), .int (zI (wM (aWd a) : Int)), .int (zI (wRun (aWd a) : Int)), .int (zI (wNeed (aWd a) : Int)), .int (zI (wMar (aWd a) : Int)), .int (wSeed (aWd a)), .ref rv, .ref rk, .ref st]))) 4 (some (wa, oB 2 [.int (zI (wN (aWd a) : Int)), .int (zI (wM (aWd a) : Int)), .int (zI (wRun (aWd a) : Int)), .int (zI (wNeed (aWd a) : Int)), .int (zI (wMar (aWd a) : Int)), .int (wSeed (aWd a)), .ref rv, .ref rk, .ref st]))) 6 = some (rk, aR (gT X 8) 16 fM) := (vun (by decide)).trans hw2
                    have hw3 : (va_up (va_up V 4 (some (wa, oB 2 [.int (zI (wN (aWd a) : Int)), .int (zI (wM (aWd a) : Int)), .int (zI (wRun (aWd a) : Int)), .int (zI (wNeed (aWd a) : Int)), .int (zI (wMar (aWd a) : Int)), .int (wSeed (aWd a)), .ref rv, .ref rk, .ref st]))) 4 (some (wa, oB 2 [.int (zI (wN (aWd a) : Int)), .int (zI (wM (aWd a) : Int)), .int (zI (wRun (aWd a) : Int)), .int (zI (wNeed (aWd a) : Int)), .int (zI (wMar (aWd a) : Int)), .int (wSeed (aWd a)), .ref rv, .ref rk, .ref st]))) 7 = some (st, aI (gT X 5) 16 fS) := (vun (by decide)).trans hw3
                    refine lv_aload_n hx hb dX0_rule_137 rfl (lv_at hl 1 rfl) ?_
                    refine g_get (ci := 0) hx hb hts in_X0 hown hG (hG.vo hx0) rfl 4 (Nat.le_of_ble_eq_true rfl) (hts _ q388) (fun _ h9 => h9) rfl dX0_rule_138 ?_
                    refine lv_iload_n hx hb dX0_rule_141 rfl (lv_at hl 2 rfl) ?_
                    refine lv_iconst (v := zI 2) hx hb dX0_rule_142 (by decide +kernel) ?_
                    refine g_cne (tgt := 150) hx hb dX0_rule_143 (by decide) (by omega) (fun hq => ?_) (fun hq => ?_)
                    · exfalso; omega
                    · refine lv_iload_n hx hb dX0_rule_146 rfl (lv_at hl 3 rfl) ?_
                      refine lv_goto (tgt := 157) hx hb dX0_rule_147 (by decide) ?_
                      refine g_putV (ci := 2) hx hb hts in_X2 tyX2 tyX2_ok nmX2 hown hG hw0 rfl 4 (Nat.le_of_ble_eq_true rfl) (hts _ q345) (fun _ h9 => h9) rfl (tyX2_ok 4 (Nat.le_of_ble_eq_true rfl)) rfl rfl (Nat.le_of_ble_eq_true rfl) dX0_rule_157 (fun H locs (hG : gW X F (va_up (va_up (va_up V 4 (some (wa, oB 2 [.int (zI (wN (aWd a) : Int)), .int (zI (wM (aWd a) : Int)), .int (zI (wRun (aWd a) : Int)), .int (zI (wNeed (aWd a) : Int)), .int (zI (wMar (aWd a) : Int)), .int (wSeed (aWd a)), .ref rv, .ref rk, .ref st]))) 4 (some (wa, oB 2 [.int (zI (wN (aWd a) : Int)), .int (zI (wM (aWd a) : Int)), .int (zI (wRun (aWd a) : Int)), .int (zI (wNeed (aWd a) : Int)), .int (zI (wMar (aWd a) : Int)), .int (wSeed (aWd a)), .ref rv, .ref rk, .ref st]))) 4 (some (wa, oB 2 [.int (zI (wN (aWd a) : Int)), .int (zI (wM (aWd a) : Int)), .int (zI (wRun (aWd a) : Int)), .int (zI (wNeed (aWd a) : Int)), .int (zI (v1 : Int)), .int (wSeed (aWd a)), .ref rv, .ref rk, .ref st]))) (Z) s H locs) => ?_)
                      have hx0 : (va_up (va_up (va_up V 4 (some (wa, oB 2 [.int (zI (wN (aWd a) : Int)), .int (zI (wM (aWd a) : Int)), .int (zI (wRun (aWd a) : Int)), .int (zI (wNeed (aWd a) : Int)), .int (zI (wMar (aWd a) : Int)), .int (wSeed (aWd a)), .ref rv, .ref rk, .ref st]))) 4 (some (wa, oB 2 [.int (zI (wN (aWd a) : Int)), .int (zI (wM (aWd a) : Int)), .int (zI (wRun (aWd a) : Int)), .int (zI (wNeed (aWd a) : Int)), .int (zI (wMar (aWd a) : Int)), .int (wSeed (aWd a)), .ref rv, .ref rk, .ref st]))) 4 (some (wa, oB 2 [.int (zI (wN (aWd a) : Int)), .int (zI (wM (aWd a) : Int)), .int (zI (wRun (aWd a) : Int)), .int (zI (wNeed (aWd a) : Int)), .int (zI (v1 : Int)), .int (wSeed (aWd a)), .ref rv, .ref rk, .ref st]))) 0 = some (x, oB 0 [.ref sa, .ref rf, .ref tr, .ref kl, .ref wa, va_rf im, .int (zI (aFa a))]) := (vun (by decide)).trans hx0
                      have hx2 : (va_up (va_up (va_up V 4 (some (wa, oB 2 [.int (zI (wN (aWd a) : Int)), .int (zI (wM (aWd a) : Int)), .int (zI (wRun (aWd a) : Int)), .int (zI (wNeed (aWd a) : Int)), .int (zI (wMar (aWd a) : Int)), .int (wSeed (aWd a)), .ref rv, .ref rk, .ref st]))) 4 (some (wa, oB 2 [.int (zI (wN (aWd a) : Int)), .int (zI (wM (aWd a) : Int)), .int (zI (wRun (aWd a) : Int)), .int (zI (wNeed (aWd a) : Int)), .int (zI (wMar (aWd a) : Int)), .int (wSeed (aWd a)), .ref rv, .ref rk, .ref st]))) 4 (some (wa, oB 2 [.int (zI (wN (aWd a) : Int)), .int (zI (wM (aWd a) : Int)), .int (zI (wRun (aWd a) : Int)), .int (zI (wNeed (aWd a) : Int)), .int (zI (v1 : Int)), .int (wSeed (aWd a)), .ref rv, .ref rk, .ref st]))) 1 = some (rf, aI (gT X 0) 8 gr9) := (vun (by decide)).trans hx2
                      have hw0 : (va_up (va_up (va_up V 4 (some (wa, oB 2 [.int (zI (wN (aWd a) : Int)), .int (zI (wM (aWd a) : Int)), .int (zI (wRun (aWd a) : Int)), .int (zI (wNeed (aWd a) : Int)), .int (zI (wMar (aWd a) : Int)), .int (wSeed (aWd a)), .ref rv, .ref rk, .ref st]))) 4 (some (wa, oB 2 [.int (zI (wN (aWd a) : Int)), .int (zI (wM (aWd a) : Int)), .int (zI (wRun (aWd a) : Int)), .int (zI (wNeed (aWd a) : Int)), .int (zI (wMar (aWd a) : Int)), .int (wSeed (aWd a)), .ref rv, .ref rk, .ref st]))) 4 (some (wa, oB 2 [.int (zI (wN (aWd a) : Int)), .int (zI (wM (aWd a) : Int)), .int (zI (wRun (aWd a) : Int)), .int (zI (wNeed (aWd a) : Int)), .int (zI (v1 : Int)), .int (wSeed (aWd a)), .ref rv, .ref rk, .ref st]))) 4 = some (wa, oB 2 [.int (zI (wN (aWd a) : Int)), .int (zI (wM (aWd a) : Int)), .int (zI (wRun (aWd a) : Int)), .int (zI (wNeed (aWd a) : Int)), .int (zI (v1 : Int)), .int (wSeed (aWd a)), .ref rv, .ref rk, .ref st]) := vus
                      have hw1 : (va_up (va_up (va_up V 4 (some (wa, oB 2 [.int (zI (wN (aWd a) : Int)), .int (zI (wM (aWd a) : Int)), .int (zI (wRun (aWd a) : Int)), .int (zI (wNeed (aWd a) : Int)), .int (zI (wMar (aWd a) : Int)), .int (wSeed (aWd a)), .ref rv, .ref rk, .ref st]))) 4 (some (wa, oB 2 [.int (zI (wN (aWd a) : Int)), .int (zI (wM (aWd a) : Int)), .int (zI (wRun (aWd a) : Int)), .int (zI (wNeed (aWd a) : Int)), .int (zI (wMar (aWd a) : Int)), .int (wSeed (aWd a)), .ref rv, .ref rk, .ref st]))) 4 (some (wa, oB 2 [.int (zI (wN (aWd a) : Int)), .int (zI (wM (aWd a) : Int)), .int (zI (wRun (aWd a) : Int)), .int (zI (wNeed (aWd a) : Int)), .int (zI (v1 : Int)), .int (wSeed (aWd a)), .ref rv, .ref rk, .ref st]))) 5 = some (rv, aR (gT X 7) 16 fR) := (vun (by decide)).trans hw1
                      have hw2 : (va_up (va_up (va_up V 4 (some (wa, oB 2 [.int (zI (wN (aWd a) : Int)), .int (zI (wM (aWd a) : Int)), .int (zI (wRun (aWd a) : Int)), .int (zI (wNeed (aWd a) : Int)), .int (zI (wMar (aWd a) : Int)), .int (wSeed (aWd a)), .ref rv, .ref rk, .ref st]))) 4 (some (wa, oB 2 [.int (zI (wN (aWd a) : Int)), .int (zI (wM (aWd a) : Int)), .int (zI (wRun (aWd a) : Int)), .int (zI (wNeed (aWd a) : Int)), .int (zI (wMar (aWd a) : Int)), .int (wSeed (aWd a)), .ref rv, .ref rk, .ref st]))) 4 (some (wa, oB 2 [.int (zI (wN (aWd a) : Int)), .int (zI (wM (aWd a) : Int)), .int (zI (wRun (aWd a) : Int)), .int (zI (wNeed (aWd a) : Int)), .int (zI (v1 : Int)), .int (wSeed (aWd a)), .ref rv, .ref rk, .ref st]))) 6 = some (rk, aR (gT X 8) 16 fM) := (vun (by decide)).trans hw2
                      have hw3 : (va_up (va_up (va_up V 4 (some (wa, oB 2 [.int (zI (wN (aWd a) : Int)), .int (zI (wM (aWd a) : Int)), .int (zI (wRun (aWd a) : Int)), .int (zI (wNeed (aWd a) : Int)), .int (zI (wMar (aWd a) : Int)), .int (wSeed (aWd a)), .ref rv, .ref rk, .ref st]))) 4 (some (wa, oB 2 [.int (zI (wN (aWd a) : Int)), .int (zI (wM (aWd a) : Int)), .int (zI (wRun (aWd a) : Int)), .int (zI (wNeed (aWd a) : Int)), .int (zI (wMar (aWd a) : Int)), .int (wSeed (aWd a)), .ref rv, .ref rk, .ref st]))) 4 (some (wa, oB 2 [.int (zI (wN (aWd a) : Int)), .int (zI (wM (aWd a) : Int)), .int (zI (wRun (aWd a) : Int)), .int (zI (wNeed (aWd a) : Int)), .int (zI (v1 : Int)), .int (wSeed (aWd a)), .ref rv, .ref rk, .ref st]))) 7 = some (st, aI (gT X 5) 16 fS) := (vun (by decide)).trans hw3
                      refine lv_iload_n hx hb dX0_rule_160 rfl (lv_at hl 0 rfl) ?_
                      have hW9 : xWd X F (va_up (va_up (va_up V 4 (some (wa, oB 2 [.int (zI (wN (aWd a) : Int)), .int (zI (wM (aWd a) : Int)), .int (zI (wRun (aWd a) : Int)), .int (zI (wNeed (aWd a) : Int)), .int (zI (wMar (aWd a) : Int)), .int (wSeed (aWd a)), .ref rv, .ref rk, .ref st]))) 4 (some (wa, oB 2 [.int (zI (wN (aWd a) : Int)), .int (zI (wM (aWd a) : Int)), .int (zI (wRun (aWd a) : Int)), .int (zI (wNeed (aWd a) : Int)), .int (zI (wMar (aWd a) : Int)), .int (wSeed (aWd a)), .ref rv, .ref rk, .ref st]))) 4 (some (wa, oB 2 [.int (zI (wN (aWd a) : Int)), .int (zI (wM (aWd a) : Int)), .int (zI (wRun (aWd a) : Int)), .int (zI (wNeed (aWd a) : Int)), .int (zI (v1 : Int)), .int (wSeed (aWd a)), .ref rv, .ref rk, .ref st]))) 4 (wRule (aWd a) 2 (v1 : Int)) wa rv rk st ra la ma := ⟨hw0, ⟨fR, hw1, hwR⟩, ⟨fM, hw2, hwM⟩, ⟨fS, hw3, hwS⟩, hR, hMk⟩
                      refine vx_ret ?_
                      exact g_iret hx hb hr hlocks hG (by have e9 : opRule a 2 (v1 : Int) = (((wMar (aWd a) : Nat) : Int), aSetW a (wRule (aWd a) 2 (v1 : Int))) := (by unfold opRule; rw [if_neg (by simp; omega)]; first | done | rfl); rw [e9]; exact ⟨(gLe.rfl (V := V)), rfl, ((hS.setW hA (fun r9 h8 h9 => by repeat (first | rfl | refine (va_up_ne _ _ (by omega)).trans ?_)) hW9 (fun _ _ => rfl))).ex, rfl⟩) ⟨by show _ ≤ 8; omega, by show _ ≤ 400; omega⟩ dX0_rule_161
                  · exfalso; omega
                · exfalso; omega
              · exfalso; omega
            · exfalso; omega
          · exfalso; omega
        · exfalso; omega
      · refine g_ne (tgt := 30) hx hb dX0_rule_15 (by decide) (by decide) (fun hq => ?_) (fun hq => ?_)
        · refine lv_iload_n hx hb dX0_rule_30 rfl (lv_at hl 2 rfl) ?_
          refine g_i2l hx hb dX0_rule_31 (by omega) ?_
          refine lv_lconst (v := zL 0) hx hb dX0_rule_32 (by decide +kernel) ?_
          refine lv_iload_n hx hb dX0_rule_33 rfl (lv_at hl 1 rfl) ?_
          refine lv_iconst (v := zI 1) hx hb dX0_rule_34 (by decide +kernel) ?_
          refine g_cne (tgt := 44) hx hb dX0_rule_35 (by decide) (by omega) (fun hq => ?_) (fun hq => ?_)
          · refine lv_ldc2 (v := 20) hx hb hown (hts _ q1775) dX0_rule_44 ?_
            refine g_topv (y := .long (zL 20)) (congrArg Value.long (by decide +kernel)) ?_
            refine g_ci (va_runS (As := [.long (zL v), .long (zL 0), .long (zL 20)]) (rest := []) ⟨hx, hb, hml, hown, hts⟩ (metX0_in (a9 := v) (b9 := 0) (c9 := 20) (by omega)) (va_cwS 3 hts (lw_S q524 q525 q87 q526) rfl rfl rfl (by decide +kernel) ⟨Nat.le_of_ble_eq_true rfl, Nat.le_of_ble_eq_true rfl⟩) (g_preS hG) rfl rfl hl.1 rfl (lv_room (Nat.le_of_ble_eq_true rfl)) dX0_rule_47 ⟨by show _ ≤ 8; omega, by show _ ≤ 400; omega⟩) hG (fun r_50 F_51 V_52 ws_ H locs hp hG => ?_)
            obtain ⟨rfl, rfl, rfl, rfl⟩ := hp
            have hG : gW X F V (Z) s H locs := hG
            refine g_topz (y := 0) (by rw [decide_eq_false (by omega)]; rfl) ?_
            refine lv_bipush (v := zI (-6)) hx hb dX0_rule_50 (by decide +kernel) ?_
            refine g_xv (vx_runS (As := [.int (zI 0), .int (zI (-6))]) (rest := []) ⟨hx, hb, hml, hown, hts⟩ (metX0_need_f (k := 6)) (va_cwS 2 hts (lw_S q520 q521 q87 q522) rfl rfl rfl (by decide +kernel) ⟨Nat.le_of_ble_eq_true rfl, Nat.le_of_ble_eq_true rfl⟩) (g_preS hG) rfl rfl hl.1 rfl (lv_room (Nat.le_of_ble_eq_true rfl)) dX0_rule_52 ⟨by show _ ≤ 8; omega, by show _ ≤ 400; omega⟩) hG (fun E9 ce9 q9 Fx_56 Vx_57 ws_ H locs hpx hG hce => ?_) (fun F_54 V_55 ws_ H locs hp hG => ?_)
            · obtain ⟨rfl, hle_Fx_56, hq9, rfl, rfl⟩ := hpx
              have hG : gW X Fx_56 V (Z) s H locs := hG
              refine g_catch (name := "LineRemarks$Refused") hown htab [] ⟨0, 161, 162, 21⟩ [] rfl (fun z9 hz9 => absurd hz9 List.not_mem_nil) (by decide) (by decide) (hts _ q410) (hG.1.2.1.1 _ qn498) hce ?_
              refine lv_astore_n (lv' := [(3, .ref q9), (0, .ref x), (1, .int (zI 2)), (2, .int (zI v))]) hx hb dX0_rule_162 rfl hl (by decide) rfl (fun ls hl => ?_)
              refine lv_aload_n hx hb dX0_rule_163 rfl (lv_at hl 1 rfl) ?_
              refine lv_aload_n hx hb dX0_rule_164 rfl (lv_at hl 0 rfl) ?_
              refine g_ci (va_runV (As := [.ref q9]) (rest := []) ⟨hx, hb, hml, hown, hts⟩ (metX0_refused (k := 6) (hS.mono hle_Fx_56) hA hq9 (by decide)) (cwV 1 hts (lw_V q589 q591 qs2 q87 q592) rfl rfl rfl (by decide +kernel) ⟨Nat.le_of_ble_eq_true rfl, Nat.le_of_ble_eq_true rfl⟩) (g_preV hG (g_recv hG (hG.vo hx0) (ci := 0) rfl)) rfl rfl hl.1 rfl (lv_room (Nat.le_of_ble_eq_true rfl)) dX0_rule_165 ⟨by show _ ≤ 8; omega, by show _ ≤ 400; omega⟩) hG (fun r_58 F_59 V_60 ws_ H locs hp hG => ?_)
              obtain ⟨rfl, rfl, hS9, rfl⟩ := hp
              have hG : gW X Fx_56 V_60 (Z) s H locs := hG
              refine vx_ret ?_
              exact g_iret hx hb hr hlocks hG (by have e9 : opRule a 2 v = aNoR a 6 := (by unfold opRule; rw [if_pos (by simp; omega)]; first | done | rfl); rw [e9]; exact ⟨hle_Fx_56, rfl, hS9.ex, rfl⟩) ⟨by show _ ≤ 8; omega, by show _ ≤ 400; omega⟩ dX0_rule_168
            exact hp.elim
          · exfalso; omega
        · exfalso; omega
  · refine g_ci (va_runS (As := [.long (zL k), .long (zL 0), .long (zL 2)]) (rest := []) ⟨hx, hb, hml, hown, hts⟩ (metX0_in (a9 := k) (b9 := 0) (c9 := 2) (by omega)) (va_cwS 3 hts (lw_S q524 q525 q87 q526) rfl rfl rfl (by decide +kernel) ⟨Nat.le_of_ble_eq_true rfl, Nat.le_of_ble_eq_true rfl⟩) (g_preS hG) rfl rfl hl.1 rfl (lv_room (Nat.le_of_ble_eq_true rfl)) dX0_rule_6 ⟨by show _ ≤ 8; omega, by show _ ≤ 400; omega⟩) hG (fun r_61 F_62 V_63 ws_ H locs hp hG => ?_)
    obtain ⟨rfl, rfl, rfl, rfl⟩ := hp
    have hG : gW X F V (Z) s H locs := hG
    refine g_topz (y := 0) (by rw [decide_eq_false (by omega)]; rfl) ?_
    refine lv_bipush (v := zI (-6)) hx hb dX0_rule_9 (by decide +kernel) ?_
    refine g_xv (vx_runS (As := [.int (zI 0), .int (zI (-6))]) (rest := []) ⟨hx, hb, hml, hown, hts⟩ (metX0_need_f (k := 6)) (va_cwS 2 hts (lw_S q520 q521 q87 q522) rfl rfl rfl (by decide +kernel) ⟨Nat.le_of_ble_eq_true rfl, Nat.le_of_ble_eq_true rfl⟩) (g_preS hG) rfl rfl hl.1 rfl (lv_room (Nat.le_of_ble_eq_true rfl)) dX0_rule_11 ⟨by show _ ≤ 8; omega, by show _ ≤ 400; omega⟩) hG (fun E9 ce9 q9 Fx_67 Vx_68 ws_ H locs hpx hG hce => ?_) (fun F_65 V_66 ws_ H locs hp hG => ?_)
    · obtain ⟨rfl, hle_Fx_67, hq9, rfl, rfl⟩ := hpx
      have hG : gW X Fx_67 V (Z) s H locs := hG
      refine g_catch (name := "LineRemarks$Refused") hown htab [] ⟨0, 161, 162, 21⟩ [] rfl (fun z9 hz9 => absurd hz9 List.not_mem_nil) (by decide) (by decide) (hts _ q410) (hG.1.2.1.1 _ qn498) hce ?_
      refine lv_astore_n (lv' := [(3, .ref q9), (0, .ref x), (1, .int (zI k)), (2, .int (zI v))]) hx hb dX0_rule_162 rfl hl (by decide) rfl (fun ls hl => ?_)
      refine lv_aload_n hx hb dX0_rule_163 rfl (lv_at hl 1 rfl) ?_
      refine lv_aload_n hx hb dX0_rule_164 rfl (lv_at hl 0 rfl) ?_
      refine g_ci (va_runV (As := [.ref q9]) (rest := []) ⟨hx, hb, hml, hown, hts⟩ (metX0_refused (k := 6) (hS.mono hle_Fx_67) hA hq9 (by decide)) (cwV 1 hts (lw_V q589 q591 qs2 q87 q592) rfl rfl rfl (by decide +kernel) ⟨Nat.le_of_ble_eq_true rfl, Nat.le_of_ble_eq_true rfl⟩) (g_preV hG (g_recv hG (hG.vo hx0) (ci := 0) rfl)) rfl rfl hl.1 rfl (lv_room (Nat.le_of_ble_eq_true rfl)) dX0_rule_165 ⟨by show _ ≤ 8; omega, by show _ ≤ 400; omega⟩) hG (fun r_69 F_70 V_71 ws_ H locs hp hG => ?_)
      obtain ⟨rfl, rfl, hS9, rfl⟩ := hp
      have hG : gW X Fx_67 V_71 (Z) s H locs := hG
      refine vx_ret ?_
      exact g_iret hx hb hr hlocks hG (by have e9 : opRule a k v = aNoR a 6 := (by unfold opRule; rw [if_pos (by omega)]; first | done | rfl); rw [e9]; exact ⟨hle_Fx_67, rfl, hS9.ex, rfl⟩) ⟨by show _ ≤ 8; omega, by show _ ≤ 400; omega⟩ dX0_rule_168
    exact hp.elim

set_option maxHeartbeats 4000000 in
theorem metX0_remarkOf {l : Launch} {X : gX} {F : gF} {V : gV} {Z : va_W} {x sa rf tr tb kl wa rv rk st : Nat} {sh ra la ma : Nat → Nat} {im : Option Nat} {a : aS} (hS : xS X F V x a sa rf tr tb kl wa rv rk st sh ra la ma im) (hA : aOK a) (hst : l.stackTraces = false) {v k : Int} (hrv : (-2147483648 ≤ v ∧ v < 2147483648)) (hrk : (-2147483648 ≤ k ∧ k < 2147483648)) : vx_Met l yX0_remarkOf (ws_ yX0_remarkOf cX0_remarkOf 4 (some FieldType.int)) ({ frames := 17, cells := 8, slots := 400, locals := 374 }) (gP X F V (Z) [.ref x, .int (zI v), .int (zI k)]) (gQi X (fun u G U ws => gLe F G ∧ u = zI (opRemarkOf a v k).1 ∧ xX X G U x (opRemarkOf a v k).2 ∧ Z = ws)) (gXc X (fun _ _ _ _ _ => False)) 8 400 (gA X) := by
  refine vx_Met.g (by decide) (Nat.le_of_ble_eq_true rfl) ?_
  intro p e s m below meth c ls hx hb hr hts hown hlocks hml hin hnt hG hl
  have hl : lv_has ls 4 [(0, .ref x), (1, .int (zI v)), (2, .int (zI k))] := hl
  have hSA := hS
  obtain ⟨hx0, ⟨fs9, hx1, hsh⟩, ⟨gr9, hx2, hgr⟩, hx3, hx4, hW, hx6, hx7⟩ := hSA
  have hSA := hS
  have hK := hA.w
  have hNN := hK.n
  have hMM := hK.m
  obtain ⟨hw0, ⟨fR, hw1, hwR⟩, ⟨fM, hw2, hwM⟩, ⟨fS, hw3, hwS⟩, hR, hMk⟩ := id hW
  have hw0 : V 4 = some (wa, oB 2 [.int (zI (wN (aWd a) : Int)), .int (zI (wM (aWd a) : Int)), .int (zI (wRun (aWd a) : Int)), .int (zI (wNeed (aWd a) : Int)), .int (zI (wMar (aWd a) : Int)), .int (wSeed (aWd a)), .ref rv, .ref rk, .ref st]) := hw0
  have hw1 : V 5 = some (rv, aR (gT X 7) 16 fR) := hw1
  have hw2 : V 6 = some (rk, aR (gT X 8) 16 fM) := hw2
  have hw3 : V 7 = some (st, aI (gT X 5) 16 fS) := hw3
  refine lv_aload_n hx hb dX0_remarkOf_0 rfl (lv_at hl 0 rfl) ?_
  refine g_get (ci := 0) hx hb hts in_X0 hown hG (hG.vo hx0) rfl 4 (Nat.le_of_ble_eq_true rfl) (hts _ q388) (fun _ h9 => h9) rfl dX0_remarkOf_1 ?_
  refine lv_iload_n hx hb dX0_remarkOf_4 rfl (lv_at hl 1 rfl) ?_
  by_cases hcv : 0 ≤ v ∧ v < wM (aWd a)
  · obtain ⟨v1, rfl⟩ : ∃ z : Nat, v = (z : Int) := ⟨v.toNat, by omega⟩
    refine g_ci (va_runV (As := [.int (zI (v1 : Int))]) (rest := []) ⟨hx, hb, hml, hown, hts⟩ (metX2_isRemark hW hK (by omega)) (cwV 1 hts (lw_V q704 q705 q706 q100 q707) rfl rfl rfl (by decide +kernel) ⟨Nat.le_of_ble_eq_true rfl, Nat.le_of_ble_eq_true rfl⟩) (g_preV hG (g_recv hG (hG.vo hw0) (ci := 2) rfl)) rfl rfl hl.1 rfl (lv_room (Nat.le_of_ble_eq_true rfl)) dX0_remarkOf_5 ⟨by show _ ≤ 8; omega, by show _ ≤ 400; omega⟩) hG (fun r_1 F_2 V_3 ws_ H locs hp hG => ?_)
    obtain ⟨rfl, rfl, rfl, rfl⟩ := hp
    have hG : gW X F V (Z) s H locs := hG
    refine g_topz (y := 1) (by rw [decide_eq_true (by omega)]; rfl) ?_
    refine g_ne (tgt := 16) hx hb dX0_remarkOf_8 (by decide) (by decide) (fun h3 => ?_) (fun h3 => ?_)
    · refine lv_aload_n hx hb dX0_remarkOf_16 rfl (lv_at hl 0 rfl) ?_
      refine g_get (ci := 0) hx hb hts in_X0 hown hG (hG.vo hx0) rfl 4 (Nat.le_of_ble_eq_true rfl) (hts _ q388) (fun _ h9 => h9) rfl dX0_remarkOf_17 ?_
      refine g_get (ci := 2) hx hb hts in_X2 hown hG (hG.vo hw0) rfl 7 (Nat.le_of_ble_eq_true rfl) (hts _ q351) (fun _ h9 => h9) rfl dX0_remarkOf_20 ?_
      refine lv_iload_n hx hb dX0_remarkOf_23 rfl (lv_at hl 1 rfl) ?_
      refine g_aald hx hb hG 8 rfl rfl (hG.vo hw2) v1 ⟨rfl, by omega, by omega⟩ (v := .ref (ma v1)) (congrArg va_rf (hwM v1 (by omega))) dX0_remarkOf_24 ?_
      have hrkv1 := hK.rk (m := v1) (by omega)
      have hrmv1 := hMk v1 (by omega)
      have hkdv1 := hrkv1.1
      refine lv_astore_n (lv' := [(3, .ref (ma v1)), (0, .ref x), (1, .int (zI (v1 : Int))), (2, .int (zI k))]) hx hb dX0_remarkOf_25 rfl hl (by decide) rfl (fun ls hl => ?_)
      refine lv_iload_n hx hb dX0_remarkOf_26 rfl (lv_at hl 3 rfl) ?_
      rcases (show k = 0 ∨ k = 1 ∨ k = 2 ∨ k = 3 ∨ k = 4 ∨ k = 5 ∨ k = 6 ∨ k = 7 ∨ k = 8 ∨ k = 9 ∨ (k < 0 ∨ 9 < k) by omega) with hk | hk | hk | hk | hk | hk | hk | hk | hk | hk | hk
      · refine g_tin hx hb 0 (off := 53) (tgt := 80) dX0_remarkOf_27 hk (by decide) rfl (by decide) ?_
        have hs_4 : 0 = k := by omega
        subst hs_4
        refine lv_aload_n hx hb dX0_remarkOf_80 rfl (lv_at hl 0 rfl) ?_
        rcases (show rKind (wRk (aWd a) v1) = 0 ∨ rKind (wRk (aWd a) v1) = 1 ∨ rKind (wRk (aWd a) v1) = 2 ∨ rKind (wRk (aWd a) v1) = 3 ∨ rKind (wRk (aWd a) v1) = 4 ∨ rKind (wRk (aWd a) v1) = 5 ∨ rKind (wRk (aWd a) v1) = 6 by omega) with hd9 | hd9 | hd9 | hd9 | hd9 | hd9 | hd9
        · rw [hd9] at hrmv1
          refine g_ci (va_runV (As := []) (rest := []) ⟨hx, hb, hml, hown, hts⟩ (metX16_kind) (cwV 0 hts (lw_V q2196 q2197 q2198 q145 q2218) rfl rfl rfl (by decide +kernel) ⟨Nat.le_of_ble_eq_true rfl, Nat.le_of_ble_eq_true rfl⟩) (g_preV hG (g_recv hG (hG.fz (show F.1 (ma v1) = some (oB 14 _) from hrmv1)) (ci := 14) rfl)) rfl rfl hl.1 rfl (lv_room (Nat.le_of_ble_eq_true rfl)) dX0_remarkOf_81 ⟨by show _ ≤ 8; omega, by show _ ≤ 400; omega⟩) hG (fun r_5 F_6 V_7 ws_ H locs hp hG => ?_)
          obtain ⟨rfl, rfl, rfl, rfl⟩ := hp
          have hG : gW X F V (Z) s H locs := hG
          refine vx_ret ?_
          exact g_iret hx hb hr hlocks hG (by have e9 : opRemarkOf a (v1 : Int) 0 = (0, a) := (by unfold opRemarkOf; rw [if_neg (by omega), if_pos (by omega)]; first | done | exact Prod.ext (congrArg (fun z : Nat => (z : Int)) hd9) rfl); rw [e9]; exact ⟨(gLe.rfl (V := V)), rfl, (hS).ex, rfl⟩) ⟨by show _ ≤ 8; omega, by show _ ≤ 400; omega⟩ dX0_remarkOf_84
        · rw [hd9] at hrmv1
          refine g_ci (va_runU (C := "LineRemarks$Point") (As := []) (rest := []) ⟨hx, hb, hml, hown, hts⟩ (metX17_kind) (va_cwO 0 hts (lw_O q2196 q2199 q2197 q2209 q2210 q146 q2211) rfl rfl rfl q2218 (by decide +kernel) ⟨Nat.le_of_ble_eq_true rfl, Nat.le_of_ble_eq_true rfl⟩) (g_preV hG (g_recv hG (hG.fz (show F.1 (ma v1) = some (oB 15 _) from hrmv1)) (ci := 15) rfl)) rfl rfl hl.1 rfl (lv_room (Nat.le_of_ble_eq_true rfl)) dX0_remarkOf_81 ⟨by show _ ≤ 8; omega, by show _ ≤ 400; omega⟩) hG (fun r_8 F_9 V_10 ws_ H locs hp hG => ?_)
          obtain ⟨rfl, rfl, rfl, rfl⟩ := hp
          have hG : gW X F V (Z) s H locs := hG
          refine vx_ret ?_
          exact g_iret hx hb hr hlocks hG (by have e9 : opRemarkOf a (v1 : Int) 0 = (1, a) := (by unfold opRemarkOf; rw [if_neg (by omega), if_pos (by omega)]; first | done | exact Prod.ext (congrArg (fun z : Nat => (z : Int)) hd9) rfl); rw [e9]; exact ⟨(gLe.rfl (V := V)), rfl, (hS).ex, rfl⟩) ⟨by show _ ≤ 8; omega, by show _ ≤ 400; omega⟩ dX0_remarkOf_84
        · rw [hd9] at hrmv1
          refine g_ci (va_runU (C := "LineRemarks$Block") (As := []) (rest := []) ⟨hx, hb, hml, hown, hts⟩ (metX18_kind) (va_cwO 0 hts (lw_O q2196 q2199 q2197 q2200 q2201 q147 q2202) rfl rfl rfl q2218 (by decide +kernel) ⟨Nat.le_of_ble_eq_true rfl, Nat.le_of_ble_eq_true rfl⟩) (g_preV hG (g_recv hG (hG.fz (show F.1 (ma v1) = some (oB 16 _) from hrmv1)) (ci := 16) rfl)) rfl rfl hl.1 rfl (lv_room (Nat.le_of_ble_eq_true rfl)) dX0_remarkOf_81 ⟨by show _ ≤ 8; omega, by show _ ≤ 400; omega⟩) hG (fun r_11 F_12 V_13 ws_ H locs hp hG => ?_)
          obtain ⟨rfl, rfl, rfl, rfl⟩ := hp
          have hG : gW X F V (Z) s H locs := hG
          refine vx_ret ?_
          exact g_iret hx hb hr hlocks hG (by have e9 : opRemarkOf a (v1 : Int) 0 = (2, a) := (by unfold opRemarkOf; rw [if_neg (by omega), if_pos (by omega)]; first | done | exact Prod.ext (congrArg (fun z : Nat => (z : Int)) hd9) rfl); rw [e9]; exact ⟨(gLe.rfl (V := V)), rfl, (hS).ex, rfl⟩) ⟨by show _ ≤ 8; omega, by show _ ≤ 400; omega⟩ dX0_remarkOf_84
        · rw [hd9] at hrmv1
          refine g_ci (va_runU (C := "LineRemarks$Caret") (As := []) (rest := []) ⟨hx, hb, hml, hown, hts⟩ (metX19_kind) (va_cwO 0 hts (lw_O q2196 q2199 q2197 q2203 q2204 q148 q2205) rfl rfl rfl q2218 (by decide +kernel) ⟨Nat.le_of_ble_eq_true rfl, Nat.le_of_ble_eq_true rfl⟩) (g_preV hG (g_recv hG (hG.fz (show F.1 (ma v1) = some (oB 17 _) from hrmv1)) (ci := 17) rfl)) rfl rfl hl.1 rfl (lv_room (Nat.le_of_ble_eq_true rfl)) dX0_remarkOf_81 ⟨by show _ ≤ 8; omega, by show _ ≤ 400; omega⟩) hG (fun r_14 F_15 V_16 ws_ H locs hp hG => ?_)
          obtain ⟨rfl, rfl, rfl, rfl⟩ := hp
          have hG : gW X F V (Z) s H locs := hG
          refine vx_ret ?_
          exact g_iret hx hb hr hlocks hG (by have e9 : opRemarkOf a (v1 : Int) 0 = (3, a) := (by unfold opRemarkOf; rw [if_neg (by omega), if_pos (by omega)]; first | done | exact Prod.ext (congrArg (fun z : Nat => (z : Int)) hd9) rfl); rw [e9]; exact ⟨(gLe.rfl (V := V)), rfl, (hS).ex, rfl⟩) ⟨by show _ ≤ 8; omega, by show _ ≤ 400; omega⟩ dX0_remarkOf_84
        · rw [hd9] at hrmv1
          refine g_ci (va_runU (C := "LineRemarks$Loose") (As := []) (rest := []) ⟨hx, hb, hml, hown, hts⟩ (metX20_kind) (va_cwO 0 hts (lw_O q2196 q2199 q2197 q2206 q2207 q149 q2208) rfl rfl rfl q2218 (by decide +kernel) ⟨Nat.le_of_ble_eq_true rfl, Nat.le_of_ble_eq_true rfl⟩) (g_preV hG (g_recv hG (hG.fz (show F.1 (ma v1) = some (oB 18 _) from hrmv1)) (ci := 18) rfl)) rfl rfl hl.1 rfl (lv_room (Nat.le_of_ble_eq_true rfl)) dX0_remarkOf_81 ⟨by show _ ≤ 8; omega, by show _ ≤ 400; omega⟩) hG (fun r_17 F_18 V_19 ws_ H locs hp hG => ?_)
          obtain ⟨rfl, rfl, rfl, rfl⟩ := hp
          have hG : gW X F V (Z) s H locs := hG
          refine vx_ret ?_
          exact g_iret hx hb hr hlocks hG (by have e9 : opRemarkOf a (v1 : Int) 0 = (4, a) := (by unfold opRemarkOf; rw [if_neg (by omega), if_pos (by omega)]; first | done | exact Prod.ext (congrArg (fun z : Nat => (z : Int)) hd9) rfl); rw [e9]; exact ⟨(gLe.rfl (V := V)), rfl, (hS).ex, rfl⟩) ⟨by show _ ≤ 8; omega, by show _ ≤ 400; omega⟩ dX0_remarkOf_84
        · rw [hd9] at hrmv1
          refine g_ci (va_runU (C := "LineRemarks$Wall") (As := []) (rest := []) ⟨hx, hb, hml, hown, hts⟩ (metX21_kind) (va_cwO 0 hts (lw_O q2196 q2199 q2197 q2215 q2216 q150 q2217) rfl rfl rfl q2218 (by decide +kernel) ⟨Nat.le_of_ble_eq_true rfl, Nat.le_of_ble_eq_true rfl⟩) (g_preV hG (g_recv hG (hG.fz (show F.1 (ma v1) = some (oB 19 _) from hrmv1)) (ci := 19) rfl)) rfl rfl hl.1 rfl (lv_room (Nat.le_of_ble_eq_true rfl)) dX0_remarkOf_81 ⟨by show _ ≤ 8; omega, by show _ ≤ 400; omega⟩) hG (fun r_20 F_21 V_22 ws_ H locs hp hG => ?_)
          obtain ⟨rfl, rfl, rfl, rfl⟩ := hp
          have hG : gW X F V (Z) s H locs := hG
          refine vx_ret ?_
          exact g_iret hx hb hr hlocks hG (by have e9 : opRemarkOf a (v1 : Int) 0 = (5, a) := (by unfold opRemarkOf; rw [if_neg (by omega), if_pos (by omega)]; first | done | exact Prod.ext (congrArg (fun z : Nat => (z : Int)) hd9) rfl); rw [e9]; exact ⟨(gLe.rfl (V := V)), rfl, (hS).ex, rfl⟩) ⟨by show _ ≤ 8; omega, by show _ ≤ 400; omega⟩ dX0_remarkOf_84
        · rw [hd9] at hrmv1
          refine g_ci (va_runU (C := "LineRemarks$Tail") (As := []) (rest := []) ⟨hx, hb, hml, hown, hts⟩ (metX22_kind) (va_cwO 0 hts (lw_O q2196 q2199 q2197 q2212 q2213 q151 q2214) rfl rfl rfl q2218 (by decide +kernel) ⟨Nat.le_of_ble_eq_true rfl, Nat.le_of_ble_eq_true rfl⟩) (g_preV hG (g_recv hG (hG.fz (show F.1 (ma v1) = some (oB 20 _) from hrmv1)) (ci := 20) rfl)) rfl rfl hl.1 rfl (lv_room (Nat.le_of_ble_eq_true rfl)) dX0_remarkOf_81 ⟨by show _ ≤ 8; omega, by show _ ≤ 400; omega⟩) hG (fun r_23 F_24 V_25 ws_ H locs hp hG => ?_)
          obtain ⟨rfl, rfl, rfl, rfl⟩ := hp
          have hG : gW X F V (Z) s H locs := hG
          refine vx_ret ?_
          exact g_iret hx hb hr hlocks hG (by have e9 : opRemarkOf a (v1 : Int) 0 = (6, a) := (by unfold opRemarkOf; rw [if_neg (by omega), if_pos (by omega)]; first | done | exact Prod.ext (congrArg (fun z : Nat => (z : Int)) hd9) rfl); rw [e9]; exact ⟨(gLe.rfl (V := V)), rfl, (hS).ex, rfl⟩) ⟨by show _ ≤ 8; omega, by show _ ≤ 400; omega⟩ dX0_remarkOf_84
      · refine g_tin hx hb 1 (off := 58) (tgt := 85) dX0_remarkOf_27 hk (by decide) rfl (by decide) ?_
        have hs_26 : 1 = k := by omega
        subst hs_26
        refine lv_aload_n hx hb dX0_remarkOf_85 rfl (lv_at hl 0 rfl) ?_
        refine g_rmget hx hb hkdv1 hts hown hG (hG.fz hrmv1) 1 (by decide) (hts _ q2079) rfl dX0_remarkOf_86 ?_
        refine vx_ret ?_
        exact g_iret hx hb hr hlocks hG (by have e9 : opRemarkOf a (v1 : Int) 1 = ((rBy (wRk (aWd a) v1) : Int), a) := (by unfold opRemarkOf; rw [if_neg (by omega), if_pos (by omega)]; first | done | rfl); rw [e9]; exact ⟨(gLe.rfl (V := V)), rfl, (hS).ex, rfl⟩) ⟨by show _ ≤ 8; omega, by show _ ≤ 400; omega⟩ dX0_remarkOf_89
      · refine g_tin hx hb 2 (off := 63) (tgt := 90) dX0_remarkOf_27 hk (by decide) rfl (by decide) ?_
        have hs_27 : 2 = k := by omega
        subst hs_27
        refine lv_aload_n hx hb dX0_remarkOf_90 rfl (lv_at hl 0 rfl) ?_
        refine g_rmget hx hb hkdv1 hts hown hG (hG.fz hrmv1) 2 (by decide) (hts _ q2084) rfl dX0_remarkOf_91 ?_
        obtain ⟨vc_28, hrvc_28, hgvc_28⟩ := hG.rv (hR (rOn (wRk (aWd a) v1)) hrkv1.2.2.1).1
        refine g_get (ci := 12) hx hb hts in_X14 hown hG hrvc_28 rfl 0 (Nat.le_of_ble_eq_true rfl) (hts _ q1721) (fun _ h9 => h9) rfl dX0_remarkOf_94 ?_
        refine vx_ret ?_
        exact g_iret hx hb hr hlocks hG (by have e9 : opRemarkOf a (v1 : Int) 2 = ((rOn (wRk (aWd a) v1) : Int), a) := (by unfold opRemarkOf; rw [if_neg (by omega), if_pos (by omega)]; first | done | rfl); rw [e9]; exact ⟨(gLe.rfl (V := V)), rfl, (hS).ex, rfl⟩) ⟨by show _ ≤ 8; omega, by show _ ≤ 400; omega⟩ dX0_remarkOf_97
      · refine g_tin hx hb 3 (off := 71) (tgt := 98) dX0_remarkOf_27 hk (by decide) rfl (by decide) ?_
        have hs_29 : 3 = k := by omega
        subst hs_29
        refine lv_aload_n hx hb dX0_remarkOf_98 rfl (lv_at hl 0 rfl) ?_
        refine g_rmget hx hb hkdv1 hts hown hG (hG.fz hrmv1) 3 (by decide) (hts _ q2090) rfl dX0_remarkOf_99 ?_
        refine vx_ret ?_
        exact g_iret hx hb hr hlocks hG (by have e9 : opRemarkOf a (v1 : Int) 3 = ((rP (wRk (aWd a) v1) : Int), a) := (by unfold opRemarkOf; rw [if_neg (by omega), if_pos (by omega)]; first | done | rfl); rw [e9]; exact ⟨(gLe.rfl (V := V)), rfl, (hS).ex, rfl⟩) ⟨by show _ ≤ 8; omega, by show _ ≤ 400; omega⟩ dX0_remarkOf_102
      · refine g_tin hx hb 4 (off := 76) (tgt := 103) dX0_remarkOf_27 hk (by decide) rfl (by decide) ?_
        have hs_30 : 4 = k := by omega
        subst hs_30
        refine lv_aload_n hx hb dX0_remarkOf_103 rfl (lv_at hl 0 rfl) ?_
        refine g_rmget hx hb hkdv1 hts hown hG (hG.fz hrmv1) 4 (by decide) (hts _ q2097) rfl dX0_remarkOf_104 ?_
        refine vx_ret ?_
        exact g_iret hx hb hr hlocks hG (by have e9 : opRemarkOf a (v1 : Int) 4 = ((rQ (wRk (aWd a) v1) : Int), a) := (by unfold opRemarkOf; rw [if_neg (by omega), if_pos (by omega)]; first | done | rfl); rw [e9]; exact ⟨(gLe.rfl (V := V)), rfl, (hS).ex, rfl⟩) ⟨by show _ ≤ 8; omega, by show _ ≤ 400; omega⟩ dX0_remarkOf_107
      · refine g_tin hx hb 5 (off := 81) (tgt := 108) dX0_remarkOf_27 hk (by decide) rfl (by decide) ?_
        have hs_31 : 5 = k := by omega
        subst hs_31
        refine lv_aload_n hx hb dX0_remarkOf_108 rfl (lv_at hl 0 rfl) ?_
        refine g_rmget hx hb hkdv1 hts hown hG (hG.fz hrmv1) 5 (by decide) (hts _ q2100) rfl dX0_remarkOf_109 ?_
        refine vx_ret ?_
        exact g_iret hx hb hr hlocks hG (by have e9 : opRemarkOf a (v1 : Int) 5 = ((oI (rAns (wRk (aWd a) v1))), a) := (by unfold opRemarkOf; rw [if_neg (by omega), if_pos (by omega)]; first | done | rfl); rw [e9]; exact ⟨(gLe.rfl (V := V)), rfl, (hS).ex, rfl⟩) ⟨by show _ ≤ 8; omega, by show _ ≤ 400; omega⟩ dX0_remarkOf_112
      · refine g_tin hx hb 6 (off := 86) (tgt := 113) dX0_remarkOf_27 hk (by decide) rfl (by decide) ?_
        have hs_32 : 6 = k := by omega
        subst hs_32
        refine lv_aload_n hx hb dX0_remarkOf_113 rfl (lv_at hl 1 rfl) ?_
        refine g_get (ci := 0) hx hb hts in_X0 hown hG (hG.vo hx0) rfl 4 (Nat.le_of_ble_eq_true rfl) (hts _ q388) (fun _ h9 => h9) rfl dX0_remarkOf_114 ?_
        refine g_get (ci := 2) hx hb hts in_X2 hown hG (hG.vo hw0) rfl 8 (Nat.le_of_ble_eq_true rfl) (hts _ q353) (fun _ h9 => h9) rfl dX0_remarkOf_117 ?_
        refine lv_iload_n hx hb dX0_remarkOf_120 rfl (lv_at hl 2 rfl) ?_
        refine g_zald hx hb hG (hG.vo hw3) v1 ⟨rfl, by omega, by omega⟩ (v := zI (bI (wSt (aWd a) v1))) (hwS v1 (by omega)) dX0_remarkOf_121 ?_
        have hb01 : ∀ b : Bool, 0 ≤ bI b ∧ bI b ≤ 1 := fun b => by cases b <;> exact ⟨by decide, by decide⟩
        have hb1 := hb01 (wSt (aWd a) v1)
        refine g_eq (tgt := 129) hx hb dX0_remarkOf_122 (by decide) (by omega) (fun h6 => ?_) (fun h6 => ?_)
        · have hb9 : bI (wSt (aWd a) v1) = 0 := by omega
          refine lv_iconst (v := zI 0) hx hb dX0_remarkOf_129 (by decide +kernel) ?_
          refine vx_ret ?_
          exact g_iret hx hb hr hlocks hG (by have e9 : opRemarkOf a (v1 : Int) 6 = (0, a) := (by unfold opRemarkOf; rw [if_neg (by omega), if_pos (by omega)]; first | done | exact Prod.ext hb9 rfl); rw [e9]; exact ⟨(gLe.rfl (V := V)), rfl, (hS).ex, rfl⟩) ⟨by show _ ≤ 8; omega, by show _ ≤ 400; omega⟩ dX0_remarkOf_130
        · have hb9 : bI (wSt (aWd a) v1) = 1 := by omega
          refine lv_iconst (v := zI 1) hx hb dX0_remarkOf_125 (by decide +kernel) ?_
          refine lv_goto (tgt := 130) hx hb dX0_remarkOf_126 (by decide) ?_
          refine vx_ret ?_
          exact g_iret hx hb hr hlocks hG (by have e9 : opRemarkOf a (v1 : Int) 6 = (1, a) := (by unfold opRemarkOf; rw [if_neg (by omega), if_pos (by omega)]; first | done | exact Prod.ext hb9 rfl); rw [e9]; exact ⟨(gLe.rfl (V := V)), rfl, (hS).ex, rfl⟩) ⟨by show _ ≤ 8; omega, by show _ ≤ 400; omega⟩ dX0_remarkOf_130
      · refine g_tin hx hb 7 (off := 104) (tgt := 131) dX0_remarkOf_27 hk (by decide) rfl (by decide) ?_
        have hs_33 : 7 = k := by omega
        subst hs_33
        refine lv_aload_n hx hb dX0_remarkOf_131 rfl (lv_at hl 1 rfl) ?_
        refine g_get (ci := 0) hx hb hts in_X0 hown hG (hG.vo hx0) rfl 4 (Nat.le_of_ble_eq_true rfl) (hts _ q388) (fun _ h9 => h9) rfl dX0_remarkOf_132 ?_
        refine lv_iload_n hx hb dX0_remarkOf_135 rfl (lv_at hl 2 rfl) ?_
        refine g_ci (va_runV (As := [.int (zI (v1 : Int))]) (rest := []) ⟨hx, hb, hml, hown, hts⟩ (metX2_depth hW hK 16 (by omega) (by omega)) (cwV 1 hts (lw_V q2219 q2220 q2221 q100 q2222) rfl rfl rfl (by decide +kernel) ⟨Nat.le_of_ble_eq_true rfl, Nat.le_of_ble_eq_true rfl⟩) (g_preV hG (g_recv hG (hG.vo hw0) (ci := 2) rfl)) rfl rfl hl.1 rfl (lv_room (Nat.le_of_ble_eq_true rfl)) dX0_remarkOf_136 ⟨by show _ ≤ 8; omega, by show _ ≤ 400; omega⟩) hG (fun r_34 F_35 V_36 ws_ H locs hp hG => ?_)
        obtain ⟨rfl, rfl, rfl, rfl⟩ := hp
        have hG : gW X F V (Z) s H locs := hG
        refine vx_ret ?_
        exact g_iret hx hb hr hlocks hG (by have e9 : opRemarkOf a (v1 : Int) 7 = (((dpF (aWd a) (v1 + 1) v1 : Nat) : Int), a) := (by unfold opRemarkOf; rw [if_neg (by omega), if_neg (by omega), if_pos (by omega)]; first | done | rfl); rw [e9]; exact ⟨(gLe.rfl (V := V)), rfl, (hS).ex, rfl⟩) ⟨by show _ ≤ 8; omega, by show _ ≤ 400; omega⟩ dX0_remarkOf_139
      · refine g_tin hx hb 8 (off := 113) (tgt := 140) dX0_remarkOf_27 hk (by decide) rfl (by decide) ?_
        have hs_37 : 8 = k := by omega
        subst hs_37
        refine lv_aload_n hx hb dX0_remarkOf_140 rfl (lv_at hl 1 rfl) ?_
        refine g_get (ci := 0) hx hb hts in_X0 hown hG (hG.vo hx0) rfl 4 (Nat.le_of_ble_eq_true rfl) (hts _ q388) (fun _ h9 => h9) rfl dX0_remarkOf_141 ?_
        refine lv_iload_n hx hb dX0_remarkOf_144 rfl (lv_at hl 2 rfl) ?_
        refine g_ci (va_runV (As := [.int (zI (v1 : Int))]) (rest := []) ⟨hx, hb, hml, hown, hts⟩ (metX2_answering hW hK (by omega)) (cwV 1 hts (lw_V q2224 q2225 q2226 q100 q2227) rfl rfl rfl (by decide +kernel) ⟨Nat.le_of_ble_eq_true rfl, Nat.le_of_ble_eq_true rfl⟩) (g_preV hG (g_recv hG (hG.vo hw0) (ci := 2) rfl)) rfl rfl hl.1 rfl (lv_room (Nat.le_of_ble_eq_true rfl)) dX0_remarkOf_145 ⟨by show _ ≤ 8; omega, by show _ ≤ 400; omega⟩) hG (fun r_38 F_39 V_40 ws_ H locs hp hG => ?_)
        obtain ⟨rfl, rfl, rfl, rfl⟩ := hp
        have hG : gW X F V (Z) s H locs := hG
        refine vx_ret ?_
        exact g_iret hx hb hr hlocks hG (by have e9 : opRemarkOf a (v1 : Int) 8 = (((cnB (aIn (aWd a) v1) (wM (aWd a)) : Nat) : Int), a) := (by unfold opRemarkOf; rw [if_neg (by omega), if_neg (by omega), if_neg (by omega), if_pos (by omega)]; first | done | rfl); rw [e9]; exact ⟨(gLe.rfl (V := V)), rfl, (hS).ex, rfl⟩) ⟨by show _ ≤ 8; omega, by show _ ≤ 400; omega⟩ dX0_remarkOf_148
      · refine g_tin hx hb 9 (off := 122) (tgt := 149) dX0_remarkOf_27 hk (by decide) rfl (by decide) ?_
        have hs_41 : 9 = k := by omega
        subst hs_41
        refine lv_aload_n hx hb dX0_remarkOf_149 rfl (lv_at hl 1 rfl) ?_
        refine g_get (ci := 0) hx hb hts in_X0 hown hG (hG.vo hx0) rfl 4 (Nat.le_of_ble_eq_true rfl) (hts _ q388) (fun _ h9 => h9) rfl dX0_remarkOf_150 ?_
        refine lv_iload_n hx hb dX0_remarkOf_153 rfl (lv_at hl 2 rfl) ?_
        refine g_ci (va_runV (As := [.int (zI (v1 : Int))]) (rest := []) ⟨hx, hb, hml, hown, hts⟩ (metX2_isOpen hW hK (by omega)) (cwV 1 hts (lw_V q2264 q2265 q2266 q100 q2267) rfl rfl rfl (by decide +kernel) ⟨Nat.le_of_ble_eq_true rfl, Nat.le_of_ble_eq_true rfl⟩) (g_preV hG (g_recv hG (hG.vo hw0) (ci := 2) rfl)) rfl rfl hl.1 rfl (lv_room (Nat.le_of_ble_eq_true rfl)) dX0_remarkOf_154 ⟨by show _ ≤ 8; omega, by show _ ≤ 400; omega⟩) hG (fun r_42 F_43 V_44 ws_ H locs hp hG => ?_)
        obtain ⟨rfl, rfl, rfl, rfl⟩ := hp
        have hG : gW X F V (Z) s H locs := hG
        have hb01 : ∀ b : Bool, 0 ≤ bI b ∧ bI b ≤ 1 := fun b => by cases b <;> exact ⟨by decide, by decide⟩
        have hb1 := hb01 (aOpen (aWd a) v1)
        refine g_eq (tgt := 164) hx hb dX0_remarkOf_157 (by decide) (by omega) (fun h6 => ?_) (fun h6 => ?_)
        · have hb9 : bI (aOpen (aWd a) v1) = 0 := by omega
          refine lv_iconst (v := zI 0) hx hb dX0_remarkOf_164 (by decide +kernel) ?_
          refine vx_ret ?_
          exact g_iret hx hb hr hlocks hG (by have e9 : opRemarkOf a (v1 : Int) 9 = (0, a) := (by unfold opRemarkOf; rw [if_neg (by omega), if_neg (by omega), if_neg (by omega), if_neg (by omega), if_pos (by omega)]; first | done | exact Prod.ext hb9 rfl); rw [e9]; exact ⟨(gLe.rfl (V := V)), rfl, (hS).ex, rfl⟩) ⟨by show _ ≤ 8; omega, by show _ ≤ 400; omega⟩ dX0_remarkOf_165
        · have hb9 : bI (aOpen (aWd a) v1) = 1 := by omega
          refine lv_iconst (v := zI 1) hx hb dX0_remarkOf_160 (by decide +kernel) ?_
          refine lv_goto (tgt := 165) hx hb dX0_remarkOf_161 (by decide) ?_
          refine vx_ret ?_
          exact g_iret hx hb hr hlocks hG (by have e9 : opRemarkOf a (v1 : Int) 9 = (1, a) := (by unfold opRemarkOf; rw [if_neg (by omega), if_neg (by omega), if_neg (by omega), if_neg (by omega), if_pos (by omega)]; first | done | exact Prod.ext hb9 rfl); rw [e9]; exact ⟨(gLe.rfl (V := V)), rfl, (hS).ex, rfl⟩) ⟨by show _ ≤ 8; omega, by show _ ≤ 400; omega⟩ dX0_remarkOf_165
      · refine g_tout (tgt := 166) hx hb dX0_remarkOf_27 (by omega) (by decide) ?_
        refine lv_aload_n hx hb dX0_remarkOf_166 rfl (lv_at hl 1 rfl) ?_
        refine g_ci (va_runV (As := []) (rest := []) ⟨hx, hb, hml, hown, hts⟩ (metX0_beyond hS hA) (cwV 0 hts (lw_V q2192 q2194 qs31 q87 q2195) rfl rfl rfl (by decide +kernel) ⟨Nat.le_of_ble_eq_true rfl, Nat.le_of_ble_eq_true rfl⟩) (g_preV hG (g_recv hG (hG.vo hx0) (ci := 0) rfl)) rfl rfl hl.1 rfl (lv_room (Nat.le_of_ble_eq_true rfl)) dX0_remarkOf_167 ⟨by show _ ≤ 8; omega, by show _ ≤ 400; omega⟩) hG (fun r_45 F_46 V_47 ws_ H locs hp hG => ?_)
        obtain ⟨rfl, rfl, hS9, rfl⟩ := hp
        have hG : gW X F V_47 (Z) s H locs := hG
        refine vx_ret ?_
        exact g_iret hx hb hr hlocks hG (by have e9 : opRemarkOf a (v1 : Int) k = aNoR a 5 := (by unfold opRemarkOf; rw [if_neg (by omega), if_neg (by omega), if_neg (by omega), if_neg (by omega), if_neg (by omega)]; first | done | rfl); rw [e9]; exact ⟨gLe.rfl (V := V), rfl, hS9.ex, rfl⟩) ⟨by show _ ≤ 8; omega, by show _ ≤ 400; omega⟩ dX0_remarkOf_170
    · exfalso; omega
  · refine g_ci (va_runV (As := [.int (zI v)]) (rest := []) ⟨hx, hb, hml, hown, hts⟩ (metX2_isRemark hW hK (by omega)) (cwV 1 hts (lw_V q704 q705 q706 q100 q707) rfl rfl rfl (by decide +kernel) ⟨Nat.le_of_ble_eq_true rfl, Nat.le_of_ble_eq_true rfl⟩) (g_preV hG (g_recv hG (hG.vo hw0) (ci := 2) rfl)) rfl rfl hl.1 rfl (lv_room (Nat.le_of_ble_eq_true rfl)) dX0_remarkOf_5 ⟨by show _ ≤ 8; omega, by show _ ≤ 400; omega⟩) hG (fun r_48 F_49 V_50 ws_ H locs hp hG => ?_)
    obtain ⟨rfl, rfl, rfl, rfl⟩ := hp
    have hG : gW X F V (Z) s H locs := hG
    refine g_topz (y := 0) (by rw [decide_eq_false (by omega)]; rfl) ?_
    refine g_ne (tgt := 16) hx hb dX0_remarkOf_8 (by decide) (by decide) (fun h3 => ?_) (fun h3 => ?_)
    · exfalso; omega
    · refine lv_aload_n hx hb dX0_remarkOf_11 rfl (lv_at hl 0 rfl) ?_
      refine g_ci (va_runV (As := []) (rest := []) ⟨hx, hb, hml, hown, hts⟩ (metX0_beyond hS hA) (cwV 0 hts (lw_V q2192 q2194 qs31 q87 q2195) rfl rfl rfl (by decide +kernel) ⟨Nat.le_of_ble_eq_true rfl, Nat.le_of_ble_eq_true rfl⟩) (g_preV hG (g_recv hG (hG.vo hx0) (ci := 0) rfl)) rfl rfl hl.1 rfl (lv_room (Nat.le_of_ble_eq_true rfl)) dX0_remarkOf_12 ⟨by show _ ≤ 8; omega, by show _ ≤ 400; omega⟩) hG (fun r_51 F_52 V_53 ws_ H locs hp hG => ?_)
      obtain ⟨rfl, rfl, hS9, rfl⟩ := hp
      have hG : gW X F V_53 (Z) s H locs := hG
      refine vx_ret ?_
      exact g_iret hx hb hr hlocks hG (by have e9 : opRemarkOf a v k = aNoR a 5 := (by unfold opRemarkOf; rw [if_pos (by omega)]; first | done | rfl); rw [e9]; exact ⟨gLe.rfl (V := V), rfl, hS9.ex, rfl⟩) ⟨by show _ ≤ 8; omega, by show _ ≤ 400; omega⟩ dX0_remarkOf_15

