set_option maxRecDepth 100000
set_option maxHeartbeats 4000000 in
theorem metX0_origin {l : Launch} {X : gX} {F : gF} {V : gV} {Z : va_W} {x sa rf tr tb kl wa rv rk st : Nat} {sh ra la ma : Nat → Nat} {im : Option Nat} {a : aS} (hS : xS X F V x a sa rf tr tb kl wa rv rk st sh ra la ma im) (hA : aOK a) (hst : l.stackTraces = false) {v i k : Int} (hrv : (-2147483648 ≤ v ∧ v < 2147483648)) (hri : (-2147483648 ≤ i ∧ i < 2147483648)) (hrk : (-2147483648 ≤ k ∧ k < 2147483648)) : vx_Met l yX0_origin (wsW_ yX0_origin cX0_origin 7 (some FieldType.int) [(0, 124, 125, 21)]) ({ frames := 7, cells := 600, slots := 13500, locals := 158 }) (gP X F V (Z) [.ref x, .int (zI v), .int (zI i), .int (zI k)]) (gQi X (fun u G U ws => gLe F G ∧ u = zI (opOrigin a v i k).1 ∧ xX X G U x (opOrigin a v i k).2 ∧ Z = ws)) (gXc X (fun _ _ _ _ _ => False)) 600 13500 (gA X) := by
  refine vx_Met.gH (by decide) (Nat.le_of_ble_eq_true rfl) ?_
  intro p e s m below meth c ls hx hb hr hts hown hlocks hml hin htab hG hl
  have hl : lv_has ls 7 [(0, .ref x), (1, .int (zI v)), (2, .int (zI i)), (3, .int (zI k))] := hl
  have hSA := hS
  obtain ⟨hx0, ⟨fs9, hx1, hsh⟩, ⟨gr9, hx2, hgr⟩, hx3, hx4, hW, hx6, hx7⟩ := hSA
  have hSA := hS
  have hK := hA.w
  have hNN := hK.n
  have hMM := hK.m
  obtain ⟨hw0, ⟨fR, hw1, hwR⟩, ⟨fM, hw2, hwM⟩, ⟨fS, hw3, hwS⟩, hR, hMk⟩ := id hW
  have hw0 : V 4 = some (wa, oB 2 [.int (zI (wN (aWd a) : Int)), .int (zI (wM (aWd a) : Int)), .int (zI (wRun (aWd a) : Int)), .int (zI (wNeed (aWd a) : Int)), .int (zI (wMar (aWd a) : Int)), .int (wSeed (aWd a)), .ref rv, .ref rk, .ref st]) := hw0
  have hw1 : V 5 = some (rv, aR (gT X 7) 16 fR) := hw1
  have hw2 : V 6 = some (rk, aR (gT X 8) 16 fM) := hw2
  have hw3 : V 7 = some (st, aI (gT X 5) 16 fS) := hw3
  refine lv_aload_n hx hb dX0_origin_0 rfl (lv_at hl 0 rfl) ?_
  refine lv_iload_n hx hb dX0_origin_1 rfl (lv_at hl 1 rfl) ?_
  have hru := hK.ru
  by_cases hcv : 0 ≤ v ∧ v < wN (aWd a)
  · obtain ⟨v1, rfl⟩ : ∃ z : Nat, v = (z : Int) := ⟨v.toNat, by omega⟩
    refine g_cr (va_runV (As := [.int (zI (v1 : Int))]) (rest := []) ⟨hx, hb, hml, hown, hts⟩ (metX0_revision_t (r := v1) hS hA (by omega)) (cwV 1 hts (lw_V q737 q739 qs4 q87 q740) rfl rfl rfl (by decide +kernel) ⟨Nat.le_of_ble_eq_true rfl, Nat.le_of_ble_eq_true rfl⟩) (g_preV hG (g_recv hG (hG.vo hx0) (ci := 0) rfl)) rfl rfl hl.1 rfl (lv_room (Nat.le_of_ble_eq_true rfl)) dX0_origin_2 ⟨by show _ ≤ 600; omega, by show _ ≤ 13500; omega⟩) hG (fun r_1 F_2 V_3 ws_ H locs hp hG => ?_)
    obtain ⟨rfl, rfl, rfl, rfl⟩ := hp
    have hG : gW X F V (Z) s H locs := hG
    have hlnv1 : aLn a ((v1 : Nat) : Int) = ((wTx (aWd a) v1).length : Nat) := rfl
    have h24v1 := (hK.tx (r := v1) (by omega)).1
    refine lv_astore (lv' := [(4, .ref (ra v1)), (0, .ref x), (1, .int (zI (v1 : Int))), (2, .int (zI i)), (3, .int (zI k))]) hx hb dX0_origin_5 hl (by decide) rfl (fun ls hl => ?_)
    refine lv_aload hx hb dX0_origin_7 (lv_at hl 0 rfl) ?_
    refine lv_iload_n hx hb dX0_origin_9 rfl (lv_at hl 3 rfl) ?_
    by_cases hci : 0 ≤ i ∧ i < ((wTx (aWd a) v1).length : Int)
    · refine g_cv (va_runS (As := [.ref (ra v1), .int (zI i)]) (rest := []) ⟨hx, hb, hml, hown, hts⟩ (metX0_mustLine_t (hR v1 (by omega)).1 (hR v1 (by omega)).2 (by omega) (by omega)) (va_cwS 2 hts (lw_S q1751 q1752 q87 q1753) rfl rfl rfl (by decide +kernel) ⟨Nat.le_of_ble_eq_true rfl, Nat.le_of_ble_eq_true rfl⟩) (g_preS hG) rfl rfl hl.1 rfl (lv_room (Nat.le_of_ble_eq_true rfl)) dX0_origin_10 ⟨by show _ ≤ 600; omega, by show _ ≤ 13500; omega⟩) hG (fun F_5 V_6 ws_ H locs hp hG => ?_)
      obtain ⟨rfl, rfl, rfl⟩ := hp
      have hG : gW X F V (Z) s H locs := hG
      obtain ⟨i1, rfl⟩ : ∃ z : Nat, i = (z : Int) := ⟨i.toNat, by omega⟩
      refine lv_iload_n hx hb dX0_origin_13 rfl (lv_at hl 4 rfl) ?_
      refine g_i2l hx hb dX0_origin_14 (by omega) ?_
      refine lv_lconst (v := zL 0) hx hb dX0_origin_15 (by decide +kernel) ?_
      refine lv_lconst (v := zL 1) hx hb dX0_origin_16 (by decide +kernel) ?_
      by_cases hnk : 0 ≤ k ∧ k ≤ 1
      · refine g_ci (va_runS (As := [.long (zL k), .long (zL 0), .long (zL 1)]) (rest := []) ⟨hx, hb, hml, hown, hts⟩ (metX0_in (a9 := k) (b9 := 0) (c9 := 1) (by omega)) (va_cwS 3 hts (lw_S q524 q525 q87 q526) rfl rfl rfl (by decide +kernel) ⟨Nat.le_of_ble_eq_true rfl, Nat.le_of_ble_eq_true rfl⟩) (g_preS hG) rfl rfl hl.1 rfl (lv_room (Nat.le_of_ble_eq_true rfl)) dX0_origin_17 ⟨by show _ ≤ 600; omega, by show _ ≤ 13500; omega⟩) hG (fun r_7 F_8 V_9 ws_ H locs hp hG => ?_)
        obtain ⟨rfl, rfl, rfl, rfl⟩ := hp
        have hG : gW X F V (Z) s H locs := hG
        refine g_topz (y := 1) (by rw [decide_eq_true (by omega)]; rfl) ?_
        refine lv_bipush (v := zI (-5)) hx hb dX0_origin_20 (by decide +kernel) ?_
        refine g_cv (va_runS (As := [.int (zI 1), .int (zI (-5))]) (rest := []) ⟨hx, hb, hml, hown, hts⟩ (metX0_need_t (b := 1) (by decide)) (va_cwS 2 hts (lw_S q520 q521 q87 q522) rfl rfl rfl (by decide +kernel) ⟨Nat.le_of_ble_eq_true rfl, Nat.le_of_ble_eq_true rfl⟩) (g_preS hG) rfl rfl hl.1 rfl (lv_room (Nat.le_of_ble_eq_true rfl)) dX0_origin_22 ⟨by show _ ≤ 600; omega, by show _ ≤ 13500; omega⟩) hG (fun F_11 V_12 ws_ H locs hp hG => ?_)
        obtain ⟨rfl, rfl, rfl⟩ := hp
        have hG : gW X F V (Z) s H locs := hG
        refine lv_iload_n hx hb dX0_origin_25 rfl (lv_at hl 3 rfl) ?_
        refine lv_istore (lv' := [(5, .int (zI (i1 : Int))), (4, .ref (ra v1)), (0, .ref x), (1, .int (zI (v1 : Int))), (2, .int (zI (i1 : Int))), (3, .int (zI k))]) hx hb dX0_origin_26 hl (by decide) rfl (fun ls hl => ?_)
        rcases ha : wFo (aWd a) v1 with _ | f9
        · have hRv := hR v1 (by omega)
          rw [ha] at hRv
          refine lv_aload hx hb dX0_origin_28 (lv_at hl 1 rfl) ?_
          obtain ⟨vc_13, hrvc_13, hgvc_13⟩ := hG.rv hRv.1
          refine g_get (ci := 12) hx hb hts in_X14 hown hG hrvc_13 rfl 1 (Nat.le_of_ble_eq_true rfl) (hts _ q1724) (fun _ h9 => h9) rfl dX0_origin_30 ?_
          refine lv_ifnonnullN hx hb dX0_origin_33 ?_
          refine lv_iconst (v := zI (-1)) hx hb dX0_origin_36 (by decide +kernel) ?_
          refine lv_goto (tgt := 57) hx hb dX0_origin_37 (by decide) ?_
          refine lv_istore (lv' := [(6, .int (zI (-1))), (5, .int (zI (i1 : Int))), (4, .ref (ra v1)), (0, .ref x), (1, .int (zI (v1 : Int))), (2, .int (zI (i1 : Int))), (3, .int (zI k))]) hx hb dX0_origin_57 hl (by decide) rfl (fun ls hl => ?_)
          have hl : lv_has ls 7 [(6, .int (zI (oI (cmF (aWd a) v1 i1)))), (5, .int (zI (i1 : Int))), (4, .ref (ra v1)), (0, .ref x), (1, .int (zI (v1 : Int))), (2, .int (zI (i1 : Int))), (3, .int (zI k))] := by rw [cmF_n ha]; exact hl
          refine g_loopA (fun mz H locs ls => ∃ (r9 i2 fu : Nat) (F1 : gF), (r9 < wN (aWd a) ∧ i2 < (wTx (aWd a) r9).length ∧ orgF (aWd a) (v1 + 1) v1 i1 = orgF (aWd a) (fu + 1) r9 i2 ∧ r9 ≤ fu ∧ mz = r9 ∧ gLe F F1) ∧ gW X F1 V (Z) s H locs ∧ lv_has ls 7 [(0, .ref x), (3, .int (zI k)), (4, .ref (ra r9)), (5, .int (zI (i2 : Int))), (6, .int (zI (oI (cmF (aWd a) r9 i2))))]) v1 33 790 600 13500 ⟨v1, i1, v1, F, ⟨by omega, by omega, rfl, by omega, rfl, gLe.rfl (V := V)⟩, hG, (lv_sub hl [3, 6, 2, 1, 0] rfl)⟩ ⟨by omega, by omega⟩ (fun mz ihA H locs ls cells slots hroom hI => ?_)
          obtain ⟨r9, i2, fu, F1, ⟨hr9, hi2, hof, hfu, hmz, hle_F1⟩, hG, hl⟩ := hI
          rcases hcm : cmF (aWd a) r9 i2 with _ | j9
          · have hl : lv_has ls 7 [(0, .ref x), (3, .int (zI k)), (4, .ref (ra r9)), (5, .int (zI (i2 : Int))), (6, .int (zI (-1)))] := by rw [hcm] at hl; exact hl
            have hof9 : orgF (aWd a) (v1 + 1) v1 i1 = (r9, i2) := by rw [hof, orgF_S, hcm]
            have hR1 := hR.mono hle_F1
            refine lv_iload hx hb dX0_origin_59 (lv_at hl 4 rfl) ?_
            refine lv_iconst (v := zI (-1)) hx hb dX0_origin_61 (by decide +kernel) ?_
            refine g_ceq (tgt := 110) hx hb dX0_origin_62 (by decide) (by omega) (fun hq => ?_) (fun hq => ?_)
            · refine lv_iload_n hx hb dX0_origin_110 rfl (lv_at hl 1 rfl) ?_
              refine g_ne (tgt := 122) hx hb dX0_origin_111 (by decide) (by omega) (fun h5 => ?_) (fun h5 => ?_)
              · have hs_14 : 1 = k := by omega
                subst hs_14
                refine lv_iload hx hb dX0_origin_122 (lv_at hl 3 rfl) ?_
                refine vx_ret ?_
                exact g_iret hx hb hr hlocks hG (by have e9 : opOrigin a (v1 : Int) (i1 : Int) 1 = ((i2 : Int), a) := (by unfold opOrigin; rw [if_neg (by omega), if_neg (by omega), if_neg (by omega)]; first | done | exact congrArg (fun z : Nat × Nat => (((z.2 : Nat) : Int), a)) hof9); rw [e9]; exact ⟨hle_F1, rfl, ((hS.mono hle_F1)).ex, rfl⟩) ⟨by show _ ≤ 600; omega, by show _ ≤ 13500; omega⟩ dX0_origin_124
              · have hs_15 : 0 = k := by omega
                subst hs_15
                refine lv_aload hx hb dX0_origin_114 (lv_at hl 2 rfl) ?_
                obtain ⟨vc_16, hrvc_16, hgvc_16⟩ := hG.rv (hR1 r9 (by omega)).1
                refine g_get (ci := 12) hx hb hts in_X14 hown hG hrvc_16 rfl 0 (Nat.le_of_ble_eq_true rfl) (hts _ q1721) (fun _ h9 => h9) rfl dX0_origin_116 ?_
                refine lv_goto (tgt := 124) hx hb dX0_origin_119 (by decide) ?_
                refine vx_ret ?_
                exact g_iret hx hb hr hlocks hG (by have e9 : opOrigin a (v1 : Int) (i1 : Int) 0 = ((r9 : Int), a) := (by unfold opOrigin; rw [if_neg (by omega), if_neg (by omega), if_pos (by omega)]; first | done | exact congrArg (fun z : Nat × Nat => (((z.1 : Nat) : Int), a)) hof9); rw [e9]; exact ⟨hle_F1, rfl, ((hS.mono hle_F1)).ex, rfl⟩) ⟨by show _ ≤ 600; omega, by show _ ≤ 13500; omega⟩ dX0_origin_124
            · exfalso; omega
          · have hl : lv_has ls 7 [(0, .ref x), (3, .int (zI k)), (4, .ref (ra r9)), (5, .int (zI (i2 : Int))), (6, .int (zI (j9 : Int)))] := by rw [hcm] at hl; exact hl
            obtain ⟨f, hf, hjf⟩ := cmF_lt hcm
            have hfr := hK.fo r9 f hf
            have htf0 := (hK.tx (r := f) (by omega)).1
            have hR1 := hR.mono hle_F1
            have hRv := hR1 r9 (by omega)
            rw [hf] at hRv
            obtain ⟨fu2, rfl⟩ : ∃ z, fu = z + 1 := ⟨fu - 1, by omega⟩
            have hof2 : orgF (aWd a) (v1 + 1) v1 i1 = orgF (aWd a) (fu2 + 1) f j9 := by rw [hof, orgF_S, hcm]; show orgF (aWd a) (fu2 + 1) ((wFo (aWd a) r9).getD 0) j9 = _; rw [hf]; rfl
            refine lv_iload hx hb dX0_origin_59 (lv_at hl 4 rfl) ?_
            refine lv_iconst (v := zI (-1)) hx hb dX0_origin_61 (by decide +kernel) ?_
            refine g_ceq (tgt := 110) hx hb dX0_origin_62 (by decide) (by omega) (fun h5 => ?_) (fun h5 => ?_)
            · exfalso; omega
            · refine lv_aload hx hb dX0_origin_65 (lv_at hl 2 rfl) ?_
              obtain ⟨vc_17, hrvc_17, hgvc_17⟩ := hG.rv hRv.1
              refine g_get (ci := 12) hx hb hts in_X14 hown hG hrvc_17 rfl 1 (Nat.le_of_ble_eq_true rfl) (hts _ q1724) (fun _ h9 => h9) rfl dX0_origin_67 ?_
              refine lv_astore (lv' := [(4, .ref (ra f)), (0, .ref x), (3, .int (zI k)), (5, .int (zI (i2 : Int))), (6, .int (zI (j9 : Int)))]) hx hb dX0_origin_70 hl (by decide) rfl (fun ls hl => ?_)
              refine lv_iload hx hb dX0_origin_72 (lv_at hl 4 rfl) ?_
              refine lv_istore (lv' := [(5, .int (zI (j9 : Int))), (4, .ref (ra f)), (0, .ref x), (3, .int (zI k)), (6, .int (zI (j9 : Int)))]) hx hb dX0_origin_74 hl (by decide) rfl (fun ls hl => ?_)
              rcases ha : wFo (aWd a) f with _ | f9
              · have hRv := hR1 f (by omega)
                rw [ha] at hRv
                refine lv_aload hx hb dX0_origin_76 (lv_at hl 1 rfl) ?_
                obtain ⟨vc_18, hrvc_18, hgvc_18⟩ := hG.rv hRv.1
                refine g_get (ci := 12) hx hb hts in_X14 hown hG hrvc_18 rfl 1 (Nat.le_of_ble_eq_true rfl) (hts _ q1724) (fun _ h9 => h9) rfl dX0_origin_78 ?_
                refine lv_ifnonnullN hx hb dX0_origin_81 ?_
                refine lv_iconst (v := zI (-1)) hx hb dX0_origin_84 (by decide +kernel) ?_
                refine lv_goto (tgt := 105) hx hb dX0_origin_85 (by decide) ?_
                refine lv_istore (lv' := [(6, .int (zI (-1))), (5, .int (zI (j9 : Int))), (4, .ref (ra f)), (0, .ref x), (3, .int (zI k))]) hx hb dX0_origin_105 hl (by decide) rfl (fun ls hl => ?_)
                refine lv_goto (tgt := 59) hx hb dX0_origin_107 (by decide) ?_
                have hl : lv_has ls 7 [(6, .int (zI (oI (cmF (aWd a) f j9)))), (5, .int (zI (j9 : Int))), (4, .ref (ra f)), (0, .ref x), (3, .int (zI k))] := by rw [cmF_n ha]; exact hl
                exact ihA f (show f < mz by omega) H locs ls _ _ (room_S hroom (show f < mz by omega)) ⟨f, j9, fu2, F1, ⟨by omega, by omega, hof2, by omega, rfl, hle_F1⟩, hG, (lv_sub hl [3, 4, 2, 1, 0] rfl)⟩
              · have hfv := hK.fo f f9 ha
                have hRv := hR1 f (by omega)
                rw [ha] at hRv
                refine lv_aload hx hb dX0_origin_76 (lv_at hl 1 rfl) ?_
                obtain ⟨vc_19, hrvc_19, hgvc_19⟩ := hG.rv hRv.1
                refine g_get (ci := 12) hx hb hts in_X14 hown hG hrvc_19 rfl 1 (Nat.le_of_ble_eq_true rfl) (hts _ q1724) (fun _ h9 => h9) rfl dX0_origin_78 ?_
                refine lv_ifnonnull (tgt := 88) hx hb dX0_origin_81 (by decide) ?_
                refine lv_aload hx hb dX0_origin_88 (lv_at hl 1 rfl) ?_
                refine lv_aload_n hx hb dX0_origin_90 rfl (lv_at hl 2 rfl) ?_
                refine g_get (ci := 0) hx hb hts in_X0 hown hG (hG.vo hx0) rfl 4 (Nat.le_of_ble_eq_true rfl) (hts _ q388) (fun _ h9 => h9) rfl dX0_origin_91 ?_
                refine g_get (ci := 2) hx hb hts in_X2 hown hG (hG.vo hw0) rfl 2 (Nat.le_of_ble_eq_true rfl) (hts _ q339) (fun _ h9 => h9) rfl dX0_origin_94 ?_
                refine g_cr (va_runV (As := [.int (zI (wRun (aWd a) : Int))]) (rest := []) ⟨hx, hb, hml, hown, hts⟩ (metX14_fromFormer hR1 hK (by omega) ha ⟨hru.1, hru.2.1⟩) (cwV 1 hts (lw_V q2029 q2030 q2031 q140 q2032) rfl rfl rfl (by decide +kernel) ⟨Nat.le_of_ble_eq_true rfl, Nat.le_of_ble_eq_true rfl⟩) (g_preV hG (rev_recv hG hRv.1)) rfl rfl hl.1 rfl (lv_room (Nat.le_of_ble_eq_true rfl)) dX0_origin_97 ⟨by show _ ≤ 600; omega, by show _ ≤ 13500; omega⟩) hG (fun mt G2 V_20 ws_ H locs hp hG => ?_)
                obtain ⟨hle_G2, rfl, hmt, rfl⟩ := hp
                have hG : gW X G2 V (Z) s H locs := hG
                have htf := (hK.tx (r := f9) (by omega)).1
                have htr := (hK.tx (r := f) (by omega)).1
                have hmZ := hmt
                obtain ⟨pl, fp, w5, w6, w7, w8, hm1, hm2, hm3⟩ := hmZ
                refine lv_iload hx hb dX0_origin_100 (lv_at hl 0 rfl) ?_
                refine g_ci (va_runV (As := [.int (zI (j9 : Int))]) (rest := []) ⟨hx, hb, hml, hown, hts⟩ (metX15_lineOf (j := j9) hmt ⟨by omega, by omega⟩ (by omega)) (cwV 1 hts (lw_V q2039 q2040 q2041 q141 q2042) rfl rfl rfl (by decide +kernel) ⟨Nat.le_of_ble_eq_true rfl, Nat.le_of_ble_eq_true rfl⟩) (g_preV hG (g_recv hG (hG.fz hm1) (ci := 13) rfl)) rfl rfl hl.1 rfl (lv_room (Nat.le_of_ble_eq_true rfl)) dX0_origin_102 ⟨by show _ ≤ 600; omega, by show _ ≤ 13500; omega⟩) hG (fun r_21 F_22 V_23 ws_ H locs hp hG => ?_)
                obtain ⟨rfl, rfl, rfl, rfl⟩ := hp
                have hG : gW X G2 V (Z) s H locs := hG
                refine lv_istore (lv' := [(6, .int (zI (oI (fsB (fun x9 => decide (mPlace (wTx (aWd a) f9) (wTx (aWd a) f) (wRun (aWd a)) x9 = some j9)) (wTx (aWd a) f9).length 0)))), (5, .int (zI (j9 : Int))), (4, .ref (ra f)), (0, .ref x), (3, .int (zI k))]) hx hb dX0_origin_105 hl (by decide) rfl (fun ls hl => ?_)
                refine lv_goto (tgt := 59) hx hb dX0_origin_107 (by decide) ?_
                have hl : lv_has ls 7 [(6, .int (zI (oI (cmF (aWd a) f j9)))), (5, .int (zI (j9 : Int))), (4, .ref (ra f)), (0, .ref x), (3, .int (zI k))] := by rw [cmF_f ha]; exact hl
                exact ihA f (show f < mz by omega) H locs ls _ _ (room_U hroom (show f < mz by omega)) ⟨f, j9, fu2, G2, ⟨by omega, by omega, hof2, by omega, rfl, hle_F1.tr hle_G2⟩, hG, (lv_sub hl [3, 4, 2, 1, 0] rfl)⟩
        · have hfv := hK.fo v1 f9 ha
          have hRv := hR v1 (by omega)
          rw [ha] at hRv
          refine lv_aload hx hb dX0_origin_28 (lv_at hl 1 rfl) ?_
          obtain ⟨vc_24, hrvc_24, hgvc_24⟩ := hG.rv hRv.1
          refine g_get (ci := 12) hx hb hts in_X14 hown hG hrvc_24 rfl 1 (Nat.le_of_ble_eq_true rfl) (hts _ q1724) (fun _ h9 => h9) rfl dX0_origin_30 ?_
          refine lv_ifnonnull (tgt := 40) hx hb dX0_origin_33 (by decide) ?_
          refine lv_aload hx hb dX0_origin_40 (lv_at hl 1 rfl) ?_
          refine lv_aload_n hx hb dX0_origin_42 rfl (lv_at hl 2 rfl) ?_
          refine g_get (ci := 0) hx hb hts in_X0 hown hG (hG.vo hx0) rfl 4 (Nat.le_of_ble_eq_true rfl) (hts _ q388) (fun _ h9 => h9) rfl dX0_origin_43 ?_
          refine g_get (ci := 2) hx hb hts in_X2 hown hG (hG.vo hw0) rfl 2 (Nat.le_of_ble_eq_true rfl) (hts _ q339) (fun _ h9 => h9) rfl dX0_origin_46 ?_
          refine g_cr (va_runV (As := [.int (zI (wRun (aWd a) : Int))]) (rest := []) ⟨hx, hb, hml, hown, hts⟩ (metX14_fromFormer hR hK (by omega) ha ⟨hru.1, hru.2.1⟩) (cwV 1 hts (lw_V q2029 q2030 q2031 q140 q2032) rfl rfl rfl (by decide +kernel) ⟨Nat.le_of_ble_eq_true rfl, Nat.le_of_ble_eq_true rfl⟩) (g_preV hG (rev_recv hG hRv.1)) rfl rfl hl.1 rfl (lv_room (Nat.le_of_ble_eq_true rfl)) dX0_origin_49 ⟨by show _ ≤ 600; omega, by show _ ≤ 13500; omega⟩) hG (fun mt G1 V_25 ws_ H locs hp hG => ?_)
          obtain ⟨hle_G1, rfl, hmt, rfl⟩ := hp
          have hG : gW X G1 V (Z) s H locs := hG
          have htf := (hK.tx (r := f9) (by omega)).1
          have htr := (hK.tx (r := v1) (by omega)).1
          have hmZ := hmt
          obtain ⟨pl, fp, w5, w6, w7, w8, hm1, hm2, hm3⟩ := hmZ
          refine lv_iload hx hb dX0_origin_52 (lv_at hl 0 rfl) ?_
          refine g_ci (va_runV (As := [.int (zI (i1 : Int))]) (rest := []) ⟨hx, hb, hml, hown, hts⟩ (metX15_lineOf (j := i1) hmt ⟨by omega, by omega⟩ (by omega)) (cwV 1 hts (lw_V q2039 q2040 q2041 q141 q2042) rfl rfl rfl (by decide +kernel) ⟨Nat.le_of_ble_eq_true rfl, Nat.le_of_ble_eq_true rfl⟩) (g_preV hG (g_recv hG (hG.fz hm1) (ci := 13) rfl)) rfl rfl hl.1 rfl (lv_room (Nat.le_of_ble_eq_true rfl)) dX0_origin_54 ⟨by show _ ≤ 600; omega, by show _ ≤ 13500; omega⟩) hG (fun r_26 F_27 V_28 ws_ H locs hp hG => ?_)
          obtain ⟨rfl, rfl, rfl, rfl⟩ := hp
          have hG : gW X G1 V (Z) s H locs := hG
          refine lv_istore (lv' := [(6, .int (zI (oI (fsB (fun x9 => decide (mPlace (wTx (aWd a) f9) (wTx (aWd a) v1) (wRun (aWd a)) x9 = some i1)) (wTx (aWd a) f9).length 0)))), (5, .int (zI (i1 : Int))), (4, .ref (ra v1)), (0, .ref x), (1, .int (zI (v1 : Int))), (2, .int (zI (i1 : Int))), (3, .int (zI k))]) hx hb dX0_origin_57 hl (by decide) rfl (fun ls hl => ?_)
          have hl : lv_has ls 7 [(6, .int (zI (oI (cmF (aWd a) v1 i1)))), (5, .int (zI (i1 : Int))), (4, .ref (ra v1)), (0, .ref x), (1, .int (zI (v1 : Int))), (2, .int (zI (i1 : Int))), (3, .int (zI k))] := by rw [cmF_f ha]; exact hl
          refine g_loopA (fun mz H locs ls => ∃ (r9 i2 fu : Nat) (F1 : gF), (r9 < wN (aWd a) ∧ i2 < (wTx (aWd a) r9).length ∧ orgF (aWd a) (v1 + 1) v1 i1 = orgF (aWd a) (fu + 1) r9 i2 ∧ r9 ≤ fu ∧ mz = r9 ∧ gLe F F1) ∧ gW X F1 V (Z) s H locs ∧ lv_has ls 7 [(0, .ref x), (3, .int (zI k)), (4, .ref (ra r9)), (5, .int (zI (i2 : Int))), (6, .int (zI (oI (cmF (aWd a) r9 i2))))]) v1 33 790 600 13500 ⟨v1, i1, v1, G1, ⟨by omega, by omega, rfl, by omega, rfl, hle_G1⟩, hG, (lv_sub hl [3, 6, 2, 1, 0] rfl)⟩ ⟨by omega, by omega⟩ (fun mz ihA H locs ls cells slots hroom hI => ?_)
          obtain ⟨r9, i2, fu, F1, ⟨hr9, hi2, hof, hfu, hmz, hle_F1⟩, hG, hl⟩ := hI
          rcases hcm : cmF (aWd a) r9 i2 with _ | j9
          · have hl : lv_has ls 7 [(0, .ref x), (3, .int (zI k)), (4, .ref (ra r9)), (5, .int (zI (i2 : Int))), (6, .int (zI (-1)))] := by rw [hcm] at hl; exact hl
            have hof9 : orgF (aWd a) (v1 + 1) v1 i1 = (r9, i2) := by rw [hof, orgF_S, hcm]
            have hR1 := hR.mono hle_F1
            refine lv_iload hx hb dX0_origin_59 (lv_at hl 4 rfl) ?_
            refine lv_iconst (v := zI (-1)) hx hb dX0_origin_61 (by decide +kernel) ?_
            refine g_ceq (tgt := 110) hx hb dX0_origin_62 (by decide) (by omega) (fun hq => ?_) (fun hq => ?_)
            · refine lv_iload_n hx hb dX0_origin_110 rfl (lv_at hl 1 rfl) ?_
              refine g_ne (tgt := 122) hx hb dX0_origin_111 (by decide) (by omega) (fun h5 => ?_) (fun h5 => ?_)
              · have hs_29 : 1 = k := by omega
                subst hs_29
                refine lv_iload hx hb dX0_origin_122 (lv_at hl 3 rfl) ?_
                refine vx_ret ?_
                exact g_iret hx hb hr hlocks hG (by have e9 : opOrigin a (v1 : Int) (i1 : Int) 1 = ((i2 : Int), a) := (by unfold opOrigin; rw [if_neg (by omega), if_neg (by omega), if_neg (by omega)]; first | done | exact congrArg (fun z : Nat × Nat => (((z.2 : Nat) : Int), a)) hof9); rw [e9]; exact ⟨hle_F1, rfl, ((hS.mono hle_F1)).ex, rfl⟩) ⟨by show _ ≤ 600; omega, by show _ ≤ 13500; omega⟩ dX0_origin_124
              · have hs_30 : 0 = k := by omega
                subst hs_30
                refine lv_aload hx hb dX0_origin_114 (lv_at hl 2 rfl) ?_
                obtain ⟨vc_31, hrvc_31, hgvc_31⟩ := hG.rv (hR1 r9 (by omega)).1
                refine g_get (ci := 12) hx hb hts in_X14 hown hG hrvc_31 rfl 0 (Nat.le_of_ble_eq_true rfl) (hts _ q1721) (fun _ h9 => h9) rfl dX0_origin_116 ?_
                refine lv_goto (tgt := 124) hx hb dX0_origin_119 (by decide) ?_
                refine vx_ret ?_
                exact g_iret hx hb hr hlocks hG (by have e9 : opOrigin a (v1 : Int) (i1 : Int) 0 = ((r9 : Int), a) := (by unfold opOrigin; rw [if_neg (by omega), if_neg (by omega), if_pos (by omega)]; first | done | exact congrArg (fun z : Nat × Nat => (((z.1 : Nat) : Int), a)) hof9); rw [e9]; exact ⟨hle_F1, rfl, ((hS.mono hle_F1)).ex, rfl⟩) ⟨by show _ ≤ 600; omega, by show _ ≤ 13500; omega⟩ dX0_origin_124
            · exfalso; omega
          · have hl : lv_has ls 7 [(0, .ref x), (3, .int (zI k)), (4, .ref (ra r9)), (5, .int (zI (i2 : Int))), (6, .int (zI (j9 : Int)))] := by rw [hcm] at hl; exact hl
            obtain ⟨f, hf, hjf⟩ := cmF_lt hcm
            have hfr := hK.fo r9 f hf
            have htf0 := (hK.tx (r := f) (by omega)).1
            have hR1 := hR.mono hle_F1
            have hRv := hR1 r9 (by omega)
            rw [hf] at hRv
            obtain ⟨fu2, rfl⟩ : ∃ z, fu = z + 1 := ⟨fu - 1, by omega⟩
            have hof2 : orgF (aWd a) (v1 + 1) v1 i1 = orgF (aWd a) (fu2 + 1) f j9 := by rw [hof, orgF_S, hcm]; show orgF (aWd a) (fu2 + 1) ((wFo (aWd a) r9).getD 0) j9 = _; rw [hf]; rfl
            refine lv_iload hx hb dX0_origin_59 (lv_at hl 4 rfl) ?_
            refine lv_iconst (v := zI (-1)) hx hb dX0_origin_61 (by decide +kernel) ?_
            refine g_ceq (tgt := 110) hx hb dX0_origin_62 (by decide) (by omega) (fun h5 => ?_) (fun h5 => ?_)
            · exfalso; omega
            · refine lv_aload hx hb dX0_origin_65 (lv_at hl 2 rfl) ?_
              obtain ⟨vc_32, hrvc_32, hgvc_32⟩ := hG.rv hRv.1
              refine g_get (ci := 12) hx hb hts in_X14 hown hG hrvc_32 rfl 1 (Nat.le_of_ble_eq_true rfl) (hts _ q1724) (fun _ h9 => h9) rfl dX0_origin_67 ?_
              refine lv_astore (lv' := [(4, .ref (ra f)), (0, .ref x), (3, .int (zI k)), (5, .int (zI (i2 : Int))), (6, .int (zI (j9 : Int)))]) hx hb dX0_origin_70 hl (by decide) rfl (fun ls hl => ?_)
              refine lv_iload hx hb dX0_origin_72 (lv_at hl 4 rfl) ?_
              refine lv_istore (lv' := [(5, .int (zI (j9 : Int))), (4, .ref (ra f)), (0, .ref x), (3, .int (zI k)), (6, .int (zI (j9 : Int)))]) hx hb dX0_origin_74 hl (by decide) rfl (fun ls hl => ?_)
              rcases ha : wFo (aWd a) f with _ | f9
              · have hRv := hR1 f (by omega)
                rw [ha] at hRv
                refine lv_aload hx hb dX0_origin_76 (lv_at hl 1 rfl) ?_
                obtain ⟨vc_33, hrvc_33, hgvc_33⟩ := hG.rv hRv.1
                refine g_get (ci := 12) hx hb hts in_X14 hown hG hrvc_33 rfl 1 (Nat.le_of_ble_eq_true rfl) (hts _ q1724) (fun _ h9 => h9) rfl dX0_origin_78 ?_
                refine lv_ifnonnullN hx hb dX0_origin_81 ?_
                refine lv_iconst (v := zI (-1)) hx hb dX0_origin_84 (by decide +kernel) ?_
                refine lv_goto (tgt := 105) hx hb dX0_origin_85 (by decide) ?_
                refine lv_istore (lv' := [(6, .int (zI (-1))), (5, .int (zI (j9 : Int))), (4, .ref (ra f)), (0, .ref x), (3, .int (zI k))]) hx hb dX0_origin_105 hl (by decide) rfl (fun ls hl => ?_)
                refine lv_goto (tgt := 59) hx hb dX0_origin_107 (by decide) ?_
                have hl : lv_has ls 7 [(6, .int (zI (oI (cmF (aWd a) f j9)))), (5, .int (zI (j9 : Int))), (4, .ref (ra f)), (0, .ref x), (3, .int (zI k))] := by rw [cmF_n ha]; exact hl
                exact ihA f (show f < mz by omega) H locs ls _ _ (room_S hroom (show f < mz by omega)) ⟨f, j9, fu2, F1, ⟨by omega, by omega, hof2, by omega, rfl, hle_F1⟩, hG, (lv_sub hl [3, 4, 2, 1, 0] rfl)⟩
              · have hfv := hK.fo f f9 ha
                have hRv := hR1 f (by omega)
                rw [ha] at hRv
                refine lv_aload hx hb dX0_origin_76 (lv_at hl 1 rfl) ?_
                obtain ⟨vc_34, hrvc_34, hgvc_34⟩ := hG.rv hRv.1
                refine g_get (ci := 12) hx hb hts in_X14 hown hG hrvc_34 rfl 1 (Nat.le_of_ble_eq_true rfl) (hts _ q1724) (fun _ h9 => h9) rfl dX0_origin_78 ?_
                refine lv_ifnonnull (tgt := 88) hx hb dX0_origin_81 (by decide) ?_
                refine lv_aload hx hb dX0_origin_88 (lv_at hl 1 rfl) ?_
                refine lv_aload_n hx hb dX0_origin_90 rfl (lv_at hl 2 rfl) ?_
                refine g_get (ci := 0) hx hb hts in_X0 hown hG (hG.vo hx0) rfl 4 (Nat.le_of_ble_eq_true rfl) (hts _ q388) (fun _ h9 => h9) rfl dX0_origin_91 ?_
                refine g_get (ci := 2) hx hb hts in_X2 hown hG (hG.vo hw0) rfl 2 (Nat.le_of_ble_eq_true rfl) (hts _ q339) (fun _ h9 => h9) rfl dX0_origin_94 ?_
                refine g_cr (va_runV (As := [.int (zI (wRun (aWd a) : Int))]) (rest := []) ⟨hx, hb, hml, hown, hts⟩ (metX14_fromFormer hR1 hK (by omega) ha ⟨hru.1, hru.2.1⟩) (cwV 1 hts (lw_V q2029 q2030 q2031 q140 q2032) rfl rfl rfl (by decide +kernel) ⟨Nat.le_of_ble_eq_true rfl, Nat.le_of_ble_eq_true rfl⟩) (g_preV hG (rev_recv hG hRv.1)) rfl rfl hl.1 rfl (lv_room (Nat.le_of_ble_eq_true rfl)) dX0_origin_97 ⟨by show _ ≤ 600; omega, by show _ ≤ 13500; omega⟩) hG (fun mt G2 V_35 ws_ H locs hp hG => ?_)
                obtain ⟨hle_G2, rfl, hmt, rfl⟩ := hp
                have hG : gW X G2 V (Z) s H locs := hG
                have htf := (hK.tx (r := f9) (by omega)).1
                have htr := (hK.tx (r := f) (by omega)).1
                have hmZ := hmt
                obtain ⟨pl, fp, w5, w6, w7, w8, hm1, hm2, hm3⟩ := hmZ
                refine lv_iload hx hb dX0_origin_100 (lv_at hl 0 rfl) ?_
                refine g_ci (va_runV (As := [.int (zI (j9 : Int))]) (rest := []) ⟨hx, hb, hml, hown, hts⟩ (metX15_lineOf (j := j9) hmt ⟨by omega, by omega⟩ (by omega)) (cwV 1 hts (lw_V q2039 q2040 q2041 q141 q2042) rfl rfl rfl (by decide +kernel) ⟨Nat.le_of_ble_eq_true rfl, Nat.le_of_ble_eq_true rfl⟩) (g_preV hG (g_recv hG (hG.fz hm1) (ci := 13) rfl)) rfl rfl hl.1 rfl (lv_room (Nat.le_of_ble_eq_true rfl)) dX0_origin_102 ⟨by show _ ≤ 600; omega, by show _ ≤ 13500; omega⟩) hG (fun r_36 F_37 V_38 ws_ H locs hp hG => ?_)
                obtain ⟨rfl, rfl, rfl, rfl⟩ := hp
                have hG : gW X G2 V (Z) s H locs := hG
                refine lv_istore (lv' := [(6, .int (zI (oI (fsB (fun x9 => decide (mPlace (wTx (aWd a) f9) (wTx (aWd a) f) (wRun (aWd a)) x9 = some j9)) (wTx (aWd a) f9).length 0)))), (5, .int (zI (j9 : Int))), (4, .ref (ra f)), (0, .ref x), (3, .int (zI k))]) hx hb dX0_origin_105 hl (by decide) rfl (fun ls hl => ?_)
                refine lv_goto (tgt := 59) hx hb dX0_origin_107 (by decide) ?_
                have hl : lv_has ls 7 [(6, .int (zI (oI (cmF (aWd a) f j9)))), (5, .int (zI (j9 : Int))), (4, .ref (ra f)), (0, .ref x), (3, .int (zI k))] := by rw [cmF_f ha]; exact hl
                exact ihA f (show f < mz by omega) H locs ls _ _ (room_U hroom (show f < mz by omega)) ⟨f, j9, fu2, G2, ⟨by omega, by omega, hof2, by omega, rfl, hle_F1.tr hle_G2⟩, hG, (lv_sub hl [3, 4, 2, 1, 0] rfl)⟩
      · refine g_ci (va_runS (As := [.long (zL k), .long (zL 0), .long (zL 1)]) (rest := []) ⟨hx, hb, hml, hown, hts⟩ (metX0_in (a9 := k) (b9 := 0) (c9 := 1) (by omega)) (va_cwS 3 hts (lw_S q524 q525 q87 q526) rfl rfl rfl (by decide +kernel) ⟨Nat.le_of_ble_eq_true rfl, Nat.le_of_ble_eq_true rfl⟩) (g_preS hG) rfl rfl hl.1 rfl (lv_room (Nat.le_of_ble_eq_true rfl)) dX0_origin_17 ⟨by show _ ≤ 600; omega, by show _ ≤ 13500; omega⟩) hG (fun r_39 F_40 V_41 ws_ H locs hp hG => ?_)
        obtain ⟨rfl, rfl, rfl, rfl⟩ := hp
        have hG : gW X F V (Z) s H locs := hG
        refine g_topz (y := 0) (by rw [decide_eq_false (by omega)]; rfl) ?_
        refine lv_bipush (v := zI (-5)) hx hb dX0_origin_20 (by decide +kernel) ?_
        refine g_xv (vx_runS (As := [.int (zI 0), .int (zI (-5))]) (rest := []) ⟨hx, hb, hml, hown, hts⟩ (metX0_need_f (k := 5)) (va_cwS 2 hts (lw_S q520 q521 q87 q522) rfl rfl rfl (by decide +kernel) ⟨Nat.le_of_ble_eq_true rfl, Nat.le_of_ble_eq_true rfl⟩) (g_preS hG) rfl rfl hl.1 rfl (lv_room (Nat.le_of_ble_eq_true rfl)) dX0_origin_22 ⟨by show _ ≤ 600; omega, by show _ ≤ 13500; omega⟩) hG (fun E9 ce9 q9 Fx_45 Vx_46 ws_ H locs hpx hG hce => ?_) (fun F_43 V_44 ws_ H locs hp hG => ?_)
        · obtain ⟨rfl, hle_Fx_45, hq9, rfl, rfl⟩ := hpx
          have hG : gW X Fx_45 V (Z) s H locs := hG
          refine g_catch (name := "LineRemarks$Refused") hown htab [] ⟨0, 124, 125, 21⟩ [] rfl (fun z9 hz9 => absurd hz9 List.not_mem_nil) (by decide) (by decide) (hts _ q410) (hG.1.2.1.1 _ qn498) hce ?_
          refine lv_astore (lv' := [(4, .ref q9), (0, .ref x), (1, .int (zI (v1 : Int))), (2, .int (zI (i1 : Int))), (3, .int (zI k))]) hx hb dX0_origin_125 hl (by decide) rfl (fun ls hl => ?_)
          refine lv_aload_n hx hb dX0_origin_127 rfl (lv_at hl 1 rfl) ?_
          refine lv_aload hx hb dX0_origin_128 (lv_at hl 0 rfl) ?_
          refine g_ci (va_runV (As := [.ref q9]) (rest := []) ⟨hx, hb, hml, hown, hts⟩ (metX0_refused (k := 5) (hS.mono hle_Fx_45) hA hq9 (by decide)) (cwV 1 hts (lw_V q589 q591 qs2 q87 q592) rfl rfl rfl (by decide +kernel) ⟨Nat.le_of_ble_eq_true rfl, Nat.le_of_ble_eq_true rfl⟩) (g_preV hG (g_recv hG (hG.vo hx0) (ci := 0) rfl)) rfl rfl hl.1 rfl (lv_room (Nat.le_of_ble_eq_true rfl)) dX0_origin_130 ⟨by show _ ≤ 600; omega, by show _ ≤ 13500; omega⟩) hG (fun r_47 F_48 V_49 ws_ H locs hp hG => ?_)
          obtain ⟨rfl, rfl, hS9, rfl⟩ := hp
          have hG : gW X Fx_45 V_49 (Z) s H locs := hG
          refine vx_ret ?_
          exact g_iret hx hb hr hlocks hG (by have e9 : opOrigin a (v1 : Int) (i1 : Int) k = aNoR a 5 := (by unfold opOrigin; rw [if_neg (by omega), if_pos (by omega)]; first | done | rfl); rw [e9]; exact ⟨hle_Fx_45, rfl, hS9.ex, rfl⟩) ⟨by show _ ≤ 600; omega, by show _ ≤ 13500; omega⟩ dX0_origin_133
        exact hp.elim
    · refine g_xv (vx_runS (As := [.ref (ra v1), .int (zI i)]) (rest := []) ⟨hx, hb, hml, hown, hts⟩ (metX0_mustLine_f (hR v1 (by omega)).1 (hR v1 (by omega)).2 (by omega) (by omega)) (va_cwS 2 hts (lw_S q1751 q1752 q87 q1753) rfl rfl rfl (by decide +kernel) ⟨Nat.le_of_ble_eq_true rfl, Nat.le_of_ble_eq_true rfl⟩) (g_preS hG) rfl rfl hl.1 rfl (lv_room (Nat.le_of_ble_eq_true rfl)) dX0_origin_10 ⟨by show _ ≤ 600; omega, by show _ ≤ 13500; omega⟩) hG (fun E9 ce9 q9 Fx_53 Vx_54 ws_ H locs hpx hG hce => ?_) (fun F_51 V_52 ws_ H locs hp hG => ?_)
      · obtain ⟨rfl, hle_Fx_53, hq9, rfl, rfl⟩ := hpx
        have hG : gW X Fx_53 V (Z) s H locs := hG
        refine g_catch (name := "LineRemarks$Refused") hown htab [] ⟨0, 124, 125, 21⟩ [] rfl (fun z9 hz9 => absurd hz9 List.not_mem_nil) (by decide) (by decide) (hts _ q410) (hG.1.2.1.1 _ qn498) hce ?_
        refine lv_astore (lv' := [(4, .ref q9), (0, .ref x), (1, .int (zI (v1 : Int))), (2, .int (zI i)), (3, .int (zI k))]) hx hb dX0_origin_125 hl (by decide) rfl (fun ls hl => ?_)
        refine lv_aload_n hx hb dX0_origin_127 rfl (lv_at hl 1 rfl) ?_
        refine lv_aload hx hb dX0_origin_128 (lv_at hl 0 rfl) ?_
        refine g_ci (va_runV (As := [.ref q9]) (rest := []) ⟨hx, hb, hml, hown, hts⟩ (metX0_refused (k := 5) (hS.mono hle_Fx_53) hA hq9 (by decide)) (cwV 1 hts (lw_V q589 q591 qs2 q87 q592) rfl rfl rfl (by decide +kernel) ⟨Nat.le_of_ble_eq_true rfl, Nat.le_of_ble_eq_true rfl⟩) (g_preV hG (g_recv hG (hG.vo hx0) (ci := 0) rfl)) rfl rfl hl.1 rfl (lv_room (Nat.le_of_ble_eq_true rfl)) dX0_origin_130 ⟨by show _ ≤ 600; omega, by show _ ≤ 13500; omega⟩) hG (fun r_55 F_56 V_57 ws_ H locs hp hG => ?_)
        obtain ⟨rfl, rfl, hS9, rfl⟩ := hp
        have hG : gW X Fx_53 V_57 (Z) s H locs := hG
        refine vx_ret ?_
        exact g_iret hx hb hr hlocks hG (by have e9 : opOrigin a (v1 : Int) i k = aNoR a 5 := (by unfold opOrigin; rw [if_neg (by omega), if_pos (by omega)]; first | done | rfl); rw [e9]; exact ⟨hle_Fx_53, rfl, hS9.ex, rfl⟩) ⟨by show _ ≤ 600; omega, by show _ ≤ 13500; omega⟩ dX0_origin_133
      exact hp.elim
  · refine g_xr (vx_runV (As := [.int (zI v)]) (rest := []) ⟨hx, hb, hml, hown, hts⟩ (metX0_revision_f hS hA (by omega)) (cwV 1 hts (lw_V q737 q739 qs4 q87 q740) rfl rfl rfl (by decide +kernel) ⟨Nat.le_of_ble_eq_true rfl, Nat.le_of_ble_eq_true rfl⟩) (g_preV hG (g_recv hG (hG.vo hx0) (ci := 0) rfl)) rfl rfl hl.1 rfl (lv_room (Nat.le_of_ble_eq_true rfl)) dX0_origin_2 ⟨by show _ ≤ 600; omega, by show _ ≤ 13500; omega⟩) hG (fun E9 ce9 q9 Fx_61 Vx_62 ws_ H locs hpx hG hce => ?_) (fun r_58 F_59 V_60 ws_ H locs hp hG => ?_)
    · obtain ⟨rfl, hle_Fx_61, hq9, rfl, rfl⟩ := hpx
      have hG : gW X Fx_61 V (Z) s H locs := hG
      refine g_catch (name := "LineRemarks$Refused") hown htab [] ⟨0, 124, 125, 21⟩ [] rfl (fun z9 hz9 => absurd hz9 List.not_mem_nil) (by decide) (by decide) (hts _ q410) (hG.1.2.1.1 _ qn498) hce ?_
      refine lv_astore (lv' := [(4, .ref q9), (0, .ref x), (1, .int (zI v)), (2, .int (zI i)), (3, .int (zI k))]) hx hb dX0_origin_125 hl (by decide) rfl (fun ls hl => ?_)
      refine lv_aload_n hx hb dX0_origin_127 rfl (lv_at hl 1 rfl) ?_
      refine lv_aload hx hb dX0_origin_128 (lv_at hl 0 rfl) ?_
      refine g_ci (va_runV (As := [.ref q9]) (rest := []) ⟨hx, hb, hml, hown, hts⟩ (metX0_refused (k := 1) (hS.mono hle_Fx_61) hA hq9 (by decide)) (cwV 1 hts (lw_V q589 q591 qs2 q87 q592) rfl rfl rfl (by decide +kernel) ⟨Nat.le_of_ble_eq_true rfl, Nat.le_of_ble_eq_true rfl⟩) (g_preV hG (g_recv hG (hG.vo hx0) (ci := 0) rfl)) rfl rfl hl.1 rfl (lv_room (Nat.le_of_ble_eq_true rfl)) dX0_origin_130 ⟨by show _ ≤ 600; omega, by show _ ≤ 13500; omega⟩) hG (fun r_63 F_64 V_65 ws_ H locs hp hG => ?_)
      obtain ⟨rfl, rfl, hS9, rfl⟩ := hp
      have hG : gW X Fx_61 V_65 (Z) s H locs := hG
      refine vx_ret ?_
      exact g_iret hx hb hr hlocks hG (by have e9 : opOrigin a v i k = aNoR a 1 := (by unfold opOrigin; rw [if_pos (by omega)]; first | done | rfl); rw [e9]; exact ⟨hle_Fx_61, rfl, hS9.ex, rfl⟩) ⟨by show _ ≤ 600; omega, by show _ ≤ 13500; omega⟩ dX0_origin_133
    exact hp.elim

set_option maxHeartbeats 4000000 in
theorem metX0_put {l : Launch} {X : gX} {F : gF} {V : gV} {Z : va_W} {x sa rf tr tb kl wa rv rk st : Nat} {sh ra la ma : Nat → Nat} {im : Option Nat} {a : aS} (hS : xS X F V x a sa rf tr tb kl wa rv rk st sh ra la ma im) (hA : aOK a) (hst : l.stackTraces = false) {v y k : Int} (hrv : (-2147483648 ≤ v ∧ v < 2147483648)) (hry : (-2147483648 ≤ y ∧ y < 2147483648)) (hrk : (-2147483648 ≤ k ∧ k < 2147483648)) : vx_Met l yX0_put (wsW_ yX0_put cX0_put 8 (some FieldType.int) [(0, 110, 111, 21)]) ({ frames := 9, cells := 560, slots := 13200, locals := 203 }) (gP X F V (Z) [.ref x, .int (zI v), .int (zI y), .int (zI k)]) (gQi X (fun u G U ws => gLe F G ∧ u = zI (opPut a v y k).1 ∧ xX X G U x (opPut a v y k).2 ∧ Z = ws)) (gXc X (fun _ _ _ _ _ => False)) 560 13200 (gA X) := by
  refine vx_Met.gH (by decide) (Nat.le_of_ble_eq_true rfl) ?_
  intro p e s m below meth c ls hx hb hr hts hown hlocks hml hin htab hG hl
  have hl : lv_has ls 8 [(0, .ref x), (1, .int (zI v)), (2, .int (zI y)), (3, .int (zI k))] := hl
  have hSA := hS
  obtain ⟨hx0, ⟨fs9, hx1, hsh⟩, ⟨gr9, hx2, hgr⟩, hx3, hx4, hW, hx6, hx7⟩ := hSA
  have hSA := hS
  have hK := hA.w
  have hNN := hK.n
  have hMM := hK.m
  obtain ⟨hw0, ⟨fR, hw1, hwR⟩, ⟨fM, hw2, hwM⟩, ⟨fS, hw3, hwS⟩, hR, hMk⟩ := id hW
  have hw0 : V 4 = some (wa, oB 2 [.int (zI (wN (aWd a) : Int)), .int (zI (wM (aWd a) : Int)), .int (zI (wRun (aWd a) : Int)), .int (zI (wNeed (aWd a) : Int)), .int (zI (wMar (aWd a) : Int)), .int (wSeed (aWd a)), .ref rv, .ref rk, .ref st]) := hw0
  have hw1 : V 5 = some (rv, aR (gT X 7) 16 fR) := hw1
  have hw2 : V 6 = some (rk, aR (gT X 8) 16 fM) := hw2
  have hw3 : V 7 = some (st, aI (gT X 5) 16 fS) := hw3
  refine lv_aload_n hx hb dX0_put_0 rfl (lv_at hl 0 rfl) ?_
  refine lv_iload_n hx hb dX0_put_1 rfl (lv_at hl 1 rfl) ?_
  by_cases hcv : 0 ≤ v ∧ v < wM (aWd a)
  · obtain ⟨v1, rfl⟩ : ∃ z : Nat, v = (z : Int) := ⟨v.toNat, by omega⟩
    refine g_cr (va_runV (As := [.int (zI (v1 : Int))]) (rest := []) ⟨hx, hb, hml, hown, hts⟩ (metX0_told_t (r := v1) hS hA (by omega)) (cwV 1 hts (lw_V q700 q702 qs3 q87 q703) rfl rfl rfl (by decide +kernel) ⟨Nat.le_of_ble_eq_true rfl, Nat.le_of_ble_eq_true rfl⟩) (g_preV hG (g_recv hG (hG.vo hx0) (ci := 0) rfl)) rfl rfl hl.1 rfl (lv_room (Nat.le_of_ble_eq_true rfl)) dX0_put_2 ⟨by show _ ≤ 560; omega, by show _ ≤ 13200; omega⟩) hG (fun r_1 F_2 V_3 ws_ H locs hp hG => ?_)
    obtain ⟨rfl, rfl, rfl, rfl⟩ := hp
    have hG : gW X F V (Z) s H locs := hG
    have hrkv1 := hK.rk (m := v1) (by omega)
    have hrmv1 := hMk v1 (by omega)
    have hkdv1 := hrkv1.1
    refine lv_astore (lv' := [(4, .ref (ma v1)), (0, .ref x), (1, .int (zI (v1 : Int))), (2, .int (zI y)), (3, .int (zI k))]) hx hb dX0_put_5 hl (by decide) rfl (fun ls hl => ?_)
    refine lv_aload_n hx hb dX0_put_7 rfl (lv_at hl 1 rfl) ?_
    refine lv_iload_n hx hb dX0_put_8 rfl (lv_at hl 3 rfl) ?_
    by_cases hcy : 0 ≤ y ∧ y < wN (aWd a)
    · obtain ⟨y1, rfl⟩ : ∃ z : Nat, y = (z : Int) := ⟨y.toNat, by omega⟩
      refine g_cr (va_runV (As := [.int (zI (y1 : Int))]) (rest := []) ⟨hx, hb, hml, hown, hts⟩ (metX0_revision_t (r := y1) hS hA (by omega)) (cwV 1 hts (lw_V q737 q739 qs4 q87 q740) rfl rfl rfl (by decide +kernel) ⟨Nat.le_of_ble_eq_true rfl, Nat.le_of_ble_eq_true rfl⟩) (g_preV hG (g_recv hG (hG.vo hx0) (ci := 0) rfl)) rfl rfl hl.1 rfl (lv_room (Nat.le_of_ble_eq_true rfl)) dX0_put_9 ⟨by show _ ≤ 560; omega, by show _ ≤ 13200; omega⟩) hG (fun r_4 F_5 V_6 ws_ H locs hp hG => ?_)
      obtain ⟨rfl, rfl, rfl, rfl⟩ := hp
      have hG : gW X F V (Z) s H locs := hG
      have hlny1 : aLn a ((y1 : Nat) : Int) = ((wTx (aWd a) y1).length : Nat) := rfl
      have h24y1 := (hK.tx (r := y1) (by omega)).1
      refine lv_astore (lv' := [(5, .ref (ra y1)), (4, .ref (ma v1)), (0, .ref x), (1, .int (zI (v1 : Int))), (2, .int (zI (y1 : Int))), (3, .int (zI k))]) hx hb dX0_put_12 hl (by decide) rfl (fun ls hl => ?_)
      refine lv_iload_n hx hb dX0_put_14 rfl (lv_at hl 5 rfl) ?_
      refine g_i2l hx hb dX0_put_15 (by omega) ?_
      refine lv_lconst (v := zL 0) hx hb dX0_put_16 (by decide +kernel) ?_
      refine lv_ldc2 (v := 2) hx hb hown (hts _ q1772) dX0_put_17 ?_
      refine g_topv (y := .long (zL 2)) (congrArg Value.long (by decide +kernel)) ?_
      by_cases hnk : 0 ≤ k ∧ k ≤ 2
      · refine g_ci (va_runS (As := [.long (zL k), .long (zL 0), .long (zL 2)]) (rest := []) ⟨hx, hb, hml, hown, hts⟩ (metX0_in (a9 := k) (b9 := 0) (c9 := 2) (by omega)) (va_cwS 3 hts (lw_S q524 q525 q87 q526) rfl rfl rfl (by decide +kernel) ⟨Nat.le_of_ble_eq_true rfl, Nat.le_of_ble_eq_true rfl⟩) (g_preS hG) rfl rfl hl.1 rfl (lv_room (Nat.le_of_ble_eq_true rfl)) dX0_put_20 ⟨by show _ ≤ 560; omega, by show _ ≤ 13200; omega⟩) hG (fun r_7 F_8 V_9 ws_ H locs hp hG => ?_)
        obtain ⟨rfl, rfl, rfl, rfl⟩ := hp
        have hG : gW X F V (Z) s H locs := hG
        refine g_topz (y := 1) (by rw [decide_eq_true (by omega)]; rfl) ?_
        refine lv_bipush (v := zI (-5)) hx hb dX0_put_23 (by decide +kernel) ?_
        refine g_cv (va_runS (As := [.int (zI 1), .int (zI (-5))]) (rest := []) ⟨hx, hb, hml, hown, hts⟩ (metX0_need_t (b := 1) (by decide)) (va_cwS 2 hts (lw_S q520 q521 q87 q522) rfl rfl rfl (by decide +kernel) ⟨Nat.le_of_ble_eq_true rfl, Nat.le_of_ble_eq_true rfl⟩) (g_preS hG) rfl rfl hl.1 rfl (lv_room (Nat.le_of_ble_eq_true rfl)) dX0_put_25 ⟨by show _ ≤ 560; omega, by show _ ≤ 13200; omega⟩) hG (fun F_11 V_12 ws_ H locs hp hG => ?_)
        obtain ⟨rfl, rfl, rfl⟩ := hp
        have hG : gW X F V (Z) s H locs := hG
        refine lv_aload hx hb dX0_put_28 (lv_at hl 0 rfl) ?_
        refine lv_aload hx hb dX0_put_30 (lv_at hl 1 rfl) ?_
        refine g_rmget hx hb hkdv1 hts hown hG (hG.fz hrmv1) 2 (by decide) (hts _ q2084) rfl dX0_put_32 ?_
        rcases hb9 : beh (wFo (aWd a)) y1 (rOn (wRk (aWd a) v1)) with _ | n
        · refine g_xv (vx_runS (As := [.ref (ra y1), .ref (ra (rOn (wRk (aWd a) v1)))]) (rest := []) ⟨hx, hb, hml, hown, hts⟩ (metX0_mustBehind_f hR hK (by omega) hrkv1.2.2.1 hb9) (va_cwS 2 hts (lw_S q1949 q1950 q87 q1951) rfl rfl rfl (by decide +kernel) ⟨Nat.le_of_ble_eq_true rfl, Nat.le_of_ble_eq_true rfl⟩) (g_preS hG) rfl rfl hl.1 rfl (lv_room (Nat.le_of_ble_eq_true rfl)) dX0_put_35 ⟨by show _ ≤ 560; omega, by show _ ≤ 13200; omega⟩) hG (fun E9 ce9 q9 Fx_16 Vx_17 ws_ H locs hpx hG hce => ?_) (fun F_14 V_15 ws_ H locs hp hG => ?_)
          · obtain ⟨rfl, hle_Fx_16, hq9, rfl, rfl⟩ := hpx
            have hG : gW X Fx_16 V (Z) s H locs := hG
            refine g_catch (name := "LineRemarks$Refused") hown htab [] ⟨0, 110, 111, 21⟩ [] rfl (fun z9 hz9 => absurd hz9 List.not_mem_nil) (by decide) (by decide) (hts _ q410) (hG.1.2.1.1 _ qn498) hce ?_
            refine lv_astore (lv' := [(4, .ref q9), (5, .ref (ra y1)), (0, .ref x), (1, .int (zI (v1 : Int))), (2, .int (zI (y1 : Int))), (3, .int (zI k))]) hx hb dX0_put_111 hl (by decide) rfl (fun ls hl => ?_)
            refine lv_aload_n hx hb dX0_put_113 rfl (lv_at hl 2 rfl) ?_
            refine lv_aload hx hb dX0_put_114 (lv_at hl 0 rfl) ?_
            refine g_ci (va_runV (As := [.ref q9]) (rest := []) ⟨hx, hb, hml, hown, hts⟩ (metX0_refused (k := 6) (hS.mono hle_Fx_16) hA hq9 (by decide)) (cwV 1 hts (lw_V q589 q591 qs2 q87 q592) rfl rfl rfl (by decide +kernel) ⟨Nat.le_of_ble_eq_true rfl, Nat.le_of_ble_eq_true rfl⟩) (g_preV hG (g_recv hG (hG.vo hx0) (ci := 0) rfl)) rfl rfl hl.1 rfl (lv_room (Nat.le_of_ble_eq_true rfl)) dX0_put_116 ⟨by show _ ≤ 560; omega, by show _ ≤ 13200; omega⟩) hG (fun r_18 F_19 V_20 ws_ H locs hp hG => ?_)
            obtain ⟨rfl, rfl, hS9, rfl⟩ := hp
            have hG : gW X Fx_16 V_20 (Z) s H locs := hG
            refine lv_bipush (v := zI 10) hx hb dX0_put_119 (by decide +kernel) ?_
            refine g_isub hx hb dX0_put_121 ?_
            refine vx_ret ?_
            exact g_iret hx hb hr hlocks hG (by have e9 : opPut a (v1 : Int) (y1 : Int) k = aNoT a 6 := (by unfold opPut; rw [if_neg (by omega), if_neg (by omega), show beh (wFo (aWd a)) ((y1 : Nat) : Int).toNat (rOn (wRk (aWd a) ((v1 : Nat) : Int).toNat)) = none from hb9]; first | done | rfl); rw [e9]; exact ⟨hle_Fx_16, rfl, hS9.ex, rfl⟩) ⟨by show _ ≤ 560; omega, by show _ ≤ 13200; omega⟩ dX0_put_122
          exact hp.elim
        · refine g_cv (va_runS (As := [.ref (ra y1), .ref (ra (rOn (wRk (aWd a) v1)))]) (rest := []) ⟨hx, hb, hml, hown, hts⟩ (metX0_mustBehind_t hR hK (by omega) hrkv1.2.2.1 hb9) (va_cwS 2 hts (lw_S q1949 q1950 q87 q1951) rfl rfl rfl (by decide +kernel) ⟨Nat.le_of_ble_eq_true rfl, Nat.le_of_ble_eq_true rfl⟩) (g_preS hG) rfl rfl hl.1 rfl (lv_room (Nat.le_of_ble_eq_true rfl)) dX0_put_35 ⟨by show _ ≤ 560; omega, by show _ ≤ 13200; omega⟩) hG (fun F_22 V_23 ws_ H locs hp hG => ?_)
          obtain ⟨rfl, rfl, rfl⟩ := hp
          have hG : gW X F V (Z) s H locs := hG
          refine g_new (ci := 21) hx hb hts in_X23 tyX23 tyX23_ok hown (hts _ q2280) (hts _ q2281) (hts _ q152) hG rfl (fs := [.null, .null, .null, .null, .null, .int (zI 0)]) rfl ⟨by show _ ≤ 560; omega, by show _ ≤ 13200; omega⟩ dX0_put_38 (fun wk H (hG : gW X F V ((wk, oB 21 [.null, .null, .null, .null, .null, .int (zI 0)]) :: Z) s H _) => ?_)
          refine lv_dup hx hb dX0_put_41 rfl ?_
          refine lv_aload_n hx hb dX0_put_42 rfl (lv_at hl 2 rfl) ?_
          refine g_get (ci := 0) hx hb hts in_X0 hown hG (hG.vo hx0) rfl 4 (Nat.le_of_ble_eq_true rfl) (hts _ q388) (fun _ h9 => h9) rfl dX0_put_43 ?_
          refine g_cv (va_runI (As := [.ref wa]) (rest := [.ref wk]) ⟨hx, hb, hml, hown, hts⟩ (metX23_init) (cwI 1 hts (lw_meth q2284) rfl rfl rfl (hts _ q152) (hts _ q2282) (hts _ q2283) rfl (by decide +kernel) ⟨Nat.le_of_ble_eq_true rfl, Nat.le_of_ble_eq_true rfl⟩) (g_preS hG) rfl rfl hl.1 rfl (lv_room (Nat.le_of_ble_eq_true rfl)) dX0_put_46 ⟨by show _ ≤ 560; omega, by show _ ≤ 13200; omega⟩) hG (fun F_25 V_26 ws_ H locs hp hG => ?_)
          obtain ⟨rfl, rfl, sp, cx, cl, rfl⟩ := hp
          have hG : gW X F V ((wk, oB 21 [.ref sp, .ref cx, .ref wa, .null, .null, .int (zI 0)]) :: (sp, oB 22 [.int (zI 0), .int (zI 0)]) :: (cx, oB 23 [.ref cl, .null, .null]) :: Z) s H locs := hG
          refine lv_aload hx hb dX0_put_49 (lv_at hl 1 rfl) ?_
          refine lv_aload hx hb dX0_put_51 (lv_at hl 0 rfl) ?_
          refine g_cr (va_runV (As := [.ref (ma v1), .ref (ra y1)]) (rest := []) ⟨hx, hb, hml, hown, hts⟩ (metX23_to (t := y1) (n := n) (p9 := 0) (q9 := 0) (al := none) (be := none) (v3 := .null) (v4 := .null) (h9 := 0) hR hK hW.1 hrmv1 hkdv1 ⟨hrkv1.2.1, hrkv1.2.2.1, hrkv1.2.2.2.1, hrkv1.2.2.2.2.1⟩ (by omega) hb9) (cwV 2 hts (lw_V q2351 q2352 q2353 q152 q2354) rfl rfl rfl (by decide +kernel) ⟨Nat.le_of_ble_eq_true rfl, Nat.le_of_ble_eq_true rfl⟩) (g_preV hG (g_recv hG (hG.at 0 rfl) (ci := 21) rfl)) rfl rfl hl.1 rfl (lv_room (Nat.le_of_ble_eq_true rfl)) dX0_put_53 ⟨by show _ ≤ 560; omega, by show _ ≤ 13200; omega⟩) hG (fun r_27 G1 V_28 ws_ H locs hp hG => ?_)
          obtain ⟨hle_G1, rfl, hu, h8, p8, q8, cl8, al8, be8, hk8, rfl⟩ := hp
          obtain rfl : wk = r_27 := hu.symm
          have hG : gW X G1 V ((wk, oB 21 [.ref sp, .ref cx, .ref wa, .ref (ma v1), .ref (ra y1), .int (zI h8)]) :: (sp, oB 22 [.int (zI p8), .int (zI q8)]) :: (cx, oB 23 [.ref cl8, va_rf al8, va_rf be8]) :: Z) s H locs := hG
          obtain ⟨⟨hk1, hk2⟩, hk3, hk4, hk5, hk6⟩ := hk8
          refine lv_astore (lv' := [(6, .ref wk), (5, .ref (ra y1)), (4, .ref (ma v1)), (0, .ref x), (1, .int (zI (v1 : Int))), (2, .int (zI (y1 : Int))), (3, .int (zI k))]) hx hb dX0_put_56 hl (by decide) rfl (fun ls hl => ?_)
          refine lv_iload_n hx hb dX0_put_58 rfl (lv_at hl 6 rfl) ?_
          rcases (show k = 0 ∨ k = 1 ∨ k = 2 by omega) with hq | hq | hq
          · have hs_29 : 0 = k := by omega
            subst hs_29
            refine g_ne (tgt := 73) hx hb dX0_put_59 (by decide) (by decide) (fun hq => ?_) (fun hq => ?_)
            · exfalso; omega
            · refine lv_aload hx hb dX0_put_62 (lv_at hl 0 rfl) ?_
              refine g_get (ci := 21) hx hb hts in_X23 hown hG (hG.at 0 rfl) rfl 0 (Nat.le_of_ble_eq_true rfl) (hts _ q2331) (fun _ h9 => h9) rfl dX0_put_64 ?_
              refine g_get (ci := 22) hx hb hts in_X24 hown hG (hG.at 1 rfl) rfl 0 (Nat.le_of_ble_eq_true rfl) (hts _ q2300) (fun _ h9 => h9) rfl dX0_put_67 ?_
              refine lv_goto (tgt := 81) hx hb dX0_put_70 (by decide) ?_
              refine lv_istore (lv' := [(7, .int (zI p8)), (6, .ref wk), (5, .ref (ra y1)), (4, .ref (ma v1)), (0, .ref x), (1, .int (zI (v1 : Int))), (2, .int (zI (y1 : Int))), (3, .int (zI 0))]) hx hb dX0_put_81 hl (by decide) rfl (fun ls hl => ?_)
              refine lv_iload_n hx hb dX0_put_83 rfl (lv_at hl 7 rfl) ?_
              refine lv_iconst (v := zI 2) hx hb dX0_put_84 (by decide +kernel) ?_
              refine g_cne (tgt := 96) hx hb dX0_put_85 (by decide) (by omega) (fun hq => ?_) (fun hq => ?_)
              · refine lv_aload hx hb dX0_put_96 (lv_at hl 1 rfl) ?_
                refine g_ci (va_runV (As := []) (rest := []) ⟨hx, hb, hml, hown, hts⟩ (metX23_isLost (h9 := h8) (by omega)) (cwV 0 hts (lw_V q2463 q2379 q2380 q152 q2381) rfl rfl rfl (by decide +kernel) ⟨Nat.le_of_ble_eq_true rfl, Nat.le_of_ble_eq_true rfl⟩) (g_preV hG (g_recv hG (hG.at 0 rfl) (ci := 21) rfl)) rfl rfl hl.1 rfl (lv_room (Nat.le_of_ble_eq_true rfl)) dX0_put_98 ⟨by show _ ≤ 560; omega, by show _ ≤ 13200; omega⟩) hG (fun r_30 F_31 V_32 ws_ H locs hp hG => ?_)
                obtain ⟨rfl, rfl, rfl, rfl⟩ := hp
                have hG : gW X G1 V ((wk, oB 21 [.ref sp, .ref cx, .ref wa, .ref (ma v1), .ref (ra y1), .int (zI h8)]) :: (sp, oB 22 [.int (zI p8), .int (zI q8)]) :: (cx, oB 23 [.ref cl8, va_rf al8, va_rf be8]) :: Z) s H locs := hG
                by_cases h3 : h8 = 3
                · refine g_topz (y := 1) (if_pos h3) ?_
                  have hpo : pOf (wkF (aWd a) v1 y1 n n) = -1 := if_pos (by have q : ((kHow (wkTo (aWd a) (wRk (aWd a) v1) (rKind (wRk (aWd a) v1)) y1 n n) : Nat) : Int) = 3 := hk1.symm.trans h3; show kHow (wkTo (aWd a) (wRk (aWd a) v1) (rKind (wRk (aWd a) v1)) y1 n n) = 3; omega)
                  refine g_eq (tgt := 108) hx hb dX0_put_101 (by decide) (by decide) (fun hq => ?_) (fun hq => ?_)
                  · exfalso; omega
                  · refine lv_iconst (v := zI (-1)) hx hb dX0_put_104 (by decide +kernel) ?_
                    refine lv_goto (tgt := 110) hx hb dX0_put_105 (by decide) ?_
                    have hG : gW X G1 V ((sp, oB 22 [.int (zI p8), .int (zI q8)]) :: (cx, oB 23 [.ref cl8, va_rf al8, va_rf be8]) :: Z) s _ _ := hG.drop 0 rfl rfl
                    have hG : gW X G1 V ((cx, oB 23 [.ref cl8, va_rf al8, va_rf be8]) :: Z) s _ _ := hG.drop 0 rfl rfl
                    have hG : gW X G1 V (Z) s _ _ := hG.drop 0 rfl rfl
                    refine vx_ret ?_
                    exact g_iret hx hb hr hlocks hG (by have e9 : opPut a (v1 : Int) (y1 : Int) 0 = (-1, a) := (by unfold opPut; rw [if_neg (by omega), if_neg (by omega), show beh (wFo (aWd a)) ((y1 : Nat) : Int).toNat (rOn (wRk (aWd a) ((v1 : Nat) : Int).toNat)) = some n from hb9]; first | done | exact congrArg (fun z => (z, a)) hpo); rw [e9]; exact ⟨hle_G1, rfl, ((hS.mono hle_G1)).ex, rfl⟩) ⟨by show _ ≤ 560; omega, by show _ ≤ 13200; omega⟩ dX0_put_110
                · refine g_topz (y := 0) (if_neg h3) ?_
                  have hn3 : kHow (wkTo (aWd a) (wRk (aWd a) v1) (rKind (wRk (aWd a) v1)) y1 n n) ≠ 3 := fun q => h3 (by rw [hk1, q]; rfl)
                  have hpo : pOf (wkF (aWd a) v1 y1 n n) = p8 := (if_neg hn3).trans (hk5 hn3).2.1.symm
                  refine g_eq (tgt := 108) hx hb dX0_put_101 (by decide) (by decide) (fun hq => ?_) (fun hq => ?_)
                  · refine lv_iload hx hb dX0_put_108 (lv_at hl 0 rfl) ?_
                    have hG : gW X G1 V ((sp, oB 22 [.int (zI p8), .int (zI q8)]) :: (cx, oB 23 [.ref cl8, va_rf al8, va_rf be8]) :: Z) s _ _ := hG.drop 0 rfl rfl
                    have hG : gW X G1 V ((cx, oB 23 [.ref cl8, va_rf al8, va_rf be8]) :: Z) s _ _ := hG.drop 0 rfl rfl
                    have hG : gW X G1 V (Z) s _ _ := hG.drop 0 rfl rfl
                    refine vx_ret ?_
                    exact g_iret hx hb hr hlocks hG (by have e9 : opPut a (v1 : Int) (y1 : Int) 0 = (p8, a) := (by unfold opPut; rw [if_neg (by omega), if_neg (by omega), show beh (wFo (aWd a)) ((y1 : Nat) : Int).toNat (rOn (wRk (aWd a) ((v1 : Nat) : Int).toNat)) = some n from hb9]; first | done | exact congrArg (fun z => (z, a)) hpo); rw [e9]; exact ⟨hle_G1, rfl, ((hS.mono hle_G1)).ex, rfl⟩) ⟨by show _ ≤ 560; omega, by show _ ≤ 13200; omega⟩ dX0_put_110
                  · exfalso; omega
              · exfalso; omega
          · have hs_33 : 1 = k := by omega
            subst hs_33
            refine g_ne (tgt := 73) hx hb dX0_put_59 (by decide) (by decide) (fun hq => ?_) (fun hq => ?_)
            · refine lv_aload hx hb dX0_put_73 (lv_at hl 0 rfl) ?_
              refine g_get (ci := 21) hx hb hts in_X23 hown hG (hG.at 0 rfl) rfl 0 (Nat.le_of_ble_eq_true rfl) (hts _ q2331) (fun _ h9 => h9) rfl dX0_put_75 ?_
              refine g_get (ci := 22) hx hb hts in_X24 hown hG (hG.at 1 rfl) rfl 1 (Nat.le_of_ble_eq_true rfl) (hts _ q2306) (fun _ h9 => h9) rfl dX0_put_78 ?_
              refine lv_istore (lv' := [(7, .int (zI q8)), (6, .ref wk), (5, .ref (ra y1)), (4, .ref (ma v1)), (0, .ref x), (1, .int (zI (v1 : Int))), (2, .int (zI (y1 : Int))), (3, .int (zI 1))]) hx hb dX0_put_81 hl (by decide) rfl (fun ls hl => ?_)
              refine lv_iload_n hx hb dX0_put_83 rfl (lv_at hl 7 rfl) ?_
              refine lv_iconst (v := zI 2) hx hb dX0_put_84 (by decide +kernel) ?_
              refine g_cne (tgt := 96) hx hb dX0_put_85 (by decide) (by omega) (fun hq => ?_) (fun hq => ?_)
              · refine lv_aload hx hb dX0_put_96 (lv_at hl 1 rfl) ?_
                refine g_ci (va_runV (As := []) (rest := []) ⟨hx, hb, hml, hown, hts⟩ (metX23_isLost (h9 := h8) (by omega)) (cwV 0 hts (lw_V q2463 q2379 q2380 q152 q2381) rfl rfl rfl (by decide +kernel) ⟨Nat.le_of_ble_eq_true rfl, Nat.le_of_ble_eq_true rfl⟩) (g_preV hG (g_recv hG (hG.at 0 rfl) (ci := 21) rfl)) rfl rfl hl.1 rfl (lv_room (Nat.le_of_ble_eq_true rfl)) dX0_put_98 ⟨by show _ ≤ 560; omega, by show _ ≤ 13200; omega⟩) hG (fun r_34 F_35 V_36 ws_ H locs hp hG => ?_)
                obtain ⟨rfl, rfl, rfl, rfl⟩ := hp
                have hG : gW X G1 V ((wk, oB 21 [.ref sp, .ref cx, .ref wa, .ref (ma v1), .ref (ra y1), .int (zI h8)]) :: (sp, oB 22 [.int (zI p8), .int (zI q8)]) :: (cx, oB 23 [.ref cl8, va_rf al8, va_rf be8]) :: Z) s H locs := hG
                by_cases h3 : h8 = 3
                · refine g_topz (y := 1) (if_pos h3) ?_
                  have hpo : qOf (wkF (aWd a) v1 y1 n n) = -1 := if_pos (by have q : ((kHow (wkTo (aWd a) (wRk (aWd a) v1) (rKind (wRk (aWd a) v1)) y1 n n) : Nat) : Int) = 3 := hk1.symm.trans h3; show kHow (wkTo (aWd a) (wRk (aWd a) v1) (rKind (wRk (aWd a) v1)) y1 n n) = 3; omega)
                  refine g_eq (tgt := 108) hx hb dX0_put_101 (by decide) (by decide) (fun hq => ?_) (fun hq => ?_)
                  · exfalso; omega
                  · refine lv_iconst (v := zI (-1)) hx hb dX0_put_104 (by decide +kernel) ?_
                    refine lv_goto (tgt := 110) hx hb dX0_put_105 (by decide) ?_
                    have hG : gW X G1 V ((sp, oB 22 [.int (zI p8), .int (zI q8)]) :: (cx, oB 23 [.ref cl8, va_rf al8, va_rf be8]) :: Z) s _ _ := hG.drop 0 rfl rfl
                    have hG : gW X G1 V ((cx, oB 23 [.ref cl8, va_rf al8, va_rf be8]) :: Z) s _ _ := hG.drop 0 rfl rfl
                    have hG : gW X G1 V (Z) s _ _ := hG.drop 0 rfl rfl
                    refine vx_ret ?_
                    exact g_iret hx hb hr hlocks hG (by have e9 : opPut a (v1 : Int) (y1 : Int) 1 = (-1, a) := (by unfold opPut; rw [if_neg (by omega), if_neg (by omega), show beh (wFo (aWd a)) ((y1 : Nat) : Int).toNat (rOn (wRk (aWd a) ((v1 : Nat) : Int).toNat)) = some n from hb9]; first | done | exact congrArg (fun z => (z, a)) hpo); rw [e9]; exact ⟨hle_G1, rfl, ((hS.mono hle_G1)).ex, rfl⟩) ⟨by show _ ≤ 560; omega, by show _ ≤ 13200; omega⟩ dX0_put_110
                · refine g_topz (y := 0) (if_neg h3) ?_
                  have hn3 : kHow (wkTo (aWd a) (wRk (aWd a) v1) (rKind (wRk (aWd a) v1)) y1 n n) ≠ 3 := fun q => h3 (by rw [hk1, q]; rfl)
                  have hpo : qOf (wkF (aWd a) v1 y1 n n) = q8 := (if_neg hn3).trans (hk5 hn3).2.2.1.symm
                  refine g_eq (tgt := 108) hx hb dX0_put_101 (by decide) (by decide) (fun hq => ?_) (fun hq => ?_)
                  · refine lv_iload hx hb dX0_put_108 (lv_at hl 0 rfl) ?_
                    have hG : gW X G1 V ((sp, oB 22 [.int (zI p8), .int (zI q8)]) :: (cx, oB 23 [.ref cl8, va_rf al8, va_rf be8]) :: Z) s _ _ := hG.drop 0 rfl rfl
                    have hG : gW X G1 V ((cx, oB 23 [.ref cl8, va_rf al8, va_rf be8]) :: Z) s _ _ := hG.drop 0 rfl rfl
                    have hG : gW X G1 V (Z) s _ _ := hG.drop 0 rfl rfl
                    refine vx_ret ?_
                    exact g_iret hx hb hr hlocks hG (by have e9 : opPut a (v1 : Int) (y1 : Int) 1 = (q8, a) := (by unfold opPut; rw [if_neg (by omega), if_neg (by omega), show beh (wFo (aWd a)) ((y1 : Nat) : Int).toNat (rOn (wRk (aWd a) ((v1 : Nat) : Int).toNat)) = some n from hb9]; first | done | exact congrArg (fun z => (z, a)) hpo); rw [e9]; exact ⟨hle_G1, rfl, ((hS.mono hle_G1)).ex, rfl⟩) ⟨by show _ ≤ 560; omega, by show _ ≤ 13200; omega⟩ dX0_put_110
                  · exfalso; omega
              · exfalso; omega
            · exfalso; omega
          · have hs_37 : 2 = k := by omega
            subst hs_37
            refine g_ne (tgt := 73) hx hb dX0_put_59 (by decide) (by decide) (fun hq => ?_) (fun hq => ?_)
            · refine lv_aload hx hb dX0_put_73 (lv_at hl 0 rfl) ?_
              refine g_get (ci := 21) hx hb hts in_X23 hown hG (hG.at 0 rfl) rfl 0 (Nat.le_of_ble_eq_true rfl) (hts _ q2331) (fun _ h9 => h9) rfl dX0_put_75 ?_
              refine g_get (ci := 22) hx hb hts in_X24 hown hG (hG.at 1 rfl) rfl 1 (Nat.le_of_ble_eq_true rfl) (hts _ q2306) (fun _ h9 => h9) rfl dX0_put_78 ?_
              refine lv_istore (lv' := [(7, .int (zI q8)), (6, .ref wk), (5, .ref (ra y1)), (4, .ref (ma v1)), (0, .ref x), (1, .int (zI (v1 : Int))), (2, .int (zI (y1 : Int))), (3, .int (zI 2))]) hx hb dX0_put_81 hl (by decide) rfl (fun ls hl => ?_)
              refine lv_iload_n hx hb dX0_put_83 rfl (lv_at hl 7 rfl) ?_
              refine lv_iconst (v := zI 2) hx hb dX0_put_84 (by decide +kernel) ?_
              refine g_cne (tgt := 96) hx hb dX0_put_85 (by decide) (by omega) (fun hq => ?_) (fun hq => ?_)
              · exfalso; omega
              · refine lv_aload hx hb dX0_put_88 (lv_at hl 1 rfl) ?_
                refine g_get (ci := 21) hx hb hts in_X23 hown hG (hG.at 0 rfl) rfl 5 (Nat.le_of_ble_eq_true rfl) (hts _ q2337) (fun _ h9 => h9) rfl dX0_put_90 ?_
                refine lv_goto (tgt := 110) hx hb dX0_put_93 (by decide) ?_
                have hG : gW X G1 V ((sp, oB 22 [.int (zI p8), .int (zI q8)]) :: (cx, oB 23 [.ref cl8, va_rf al8, va_rf be8]) :: Z) s _ _ := hG.drop 0 rfl rfl
                have hG : gW X G1 V ((cx, oB 23 [.ref cl8, va_rf al8, va_rf be8]) :: Z) s _ _ := hG.drop 0 rfl rfl
                have hG : gW X G1 V (Z) s _ _ := hG.drop 0 rfl rfl
                have hz9 : h8 = ((kHow (wkF (aWd a) v1 y1 n n) : Nat) : Int) := hk1
                refine vx_ret ?_
                exact g_iret hx hb hr hlocks hG (by have e9 : opPut a (v1 : Int) (y1 : Int) 2 = (h8, a) := (by unfold opPut; rw [if_neg (by omega), if_neg (by omega), show beh (wFo (aWd a)) ((y1 : Nat) : Int).toNat (rOn (wRk (aWd a) ((v1 : Nat) : Int).toNat)) = some n from hb9]; first | done | exact congrArg (fun z => (z, a)) hz9.symm); rw [e9]; exact ⟨hle_G1, rfl, ((hS.mono hle_G1)).ex, rfl⟩) ⟨by show _ ≤ 560; omega, by show _ ≤ 13200; omega⟩ dX0_put_110
            · exfalso; omega
      · refine g_ci (va_runS (As := [.long (zL k), .long (zL 0), .long (zL 2)]) (rest := []) ⟨hx, hb, hml, hown, hts⟩ (metX0_in (a9 := k) (b9 := 0) (c9 := 2) (by omega)) (va_cwS 3 hts (lw_S q524 q525 q87 q526) rfl rfl rfl (by decide +kernel) ⟨Nat.le_of_ble_eq_true rfl, Nat.le_of_ble_eq_true rfl⟩) (g_preS hG) rfl rfl hl.1 rfl (lv_room (Nat.le_of_ble_eq_true rfl)) dX0_put_20 ⟨by show _ ≤ 560; omega, by show _ ≤ 13200; omega⟩) hG (fun r_38 F_39 V_40 ws_ H locs hp hG => ?_)
        obtain ⟨rfl, rfl, rfl, rfl⟩ := hp
        have hG : gW X F V (Z) s H locs := hG
        refine g_topz (y := 0) (by rw [decide_eq_false (by omega)]; rfl) ?_
        refine lv_bipush (v := zI (-5)) hx hb dX0_put_23 (by decide +kernel) ?_
        refine g_xv (vx_runS (As := [.int (zI 0), .int (zI (-5))]) (rest := []) ⟨hx, hb, hml, hown, hts⟩ (metX0_need_f (k := 5)) (va_cwS 2 hts (lw_S q520 q521 q87 q522) rfl rfl rfl (by decide +kernel) ⟨Nat.le_of_ble_eq_true rfl, Nat.le_of_ble_eq_true rfl⟩) (g_preS hG) rfl rfl hl.1 rfl (lv_room (Nat.le_of_ble_eq_true rfl)) dX0_put_25 ⟨by show _ ≤ 560; omega, by show _ ≤ 13200; omega⟩) hG (fun E9 ce9 q9 Fx_44 Vx_45 ws_ H locs hpx hG hce => ?_) (fun F_42 V_43 ws_ H locs hp hG => ?_)
        · obtain ⟨rfl, hle_Fx_44, hq9, rfl, rfl⟩ := hpx
          have hG : gW X Fx_44 V (Z) s H locs := hG
          refine g_catch (name := "LineRemarks$Refused") hown htab [] ⟨0, 110, 111, 21⟩ [] rfl (fun z9 hz9 => absurd hz9 List.not_mem_nil) (by decide) (by decide) (hts _ q410) (hG.1.2.1.1 _ qn498) hce ?_
          refine lv_astore (lv' := [(4, .ref q9), (5, .ref (ra y1)), (0, .ref x), (1, .int (zI (v1 : Int))), (2, .int (zI (y1 : Int))), (3, .int (zI k))]) hx hb dX0_put_111 hl (by decide) rfl (fun ls hl => ?_)
          refine lv_aload_n hx hb dX0_put_113 rfl (lv_at hl 2 rfl) ?_
          refine lv_aload hx hb dX0_put_114 (lv_at hl 0 rfl) ?_
          refine g_ci (va_runV (As := [.ref q9]) (rest := []) ⟨hx, hb, hml, hown, hts⟩ (metX0_refused (k := 5) (hS.mono hle_Fx_44) hA hq9 (by decide)) (cwV 1 hts (lw_V q589 q591 qs2 q87 q592) rfl rfl rfl (by decide +kernel) ⟨Nat.le_of_ble_eq_true rfl, Nat.le_of_ble_eq_true rfl⟩) (g_preV hG (g_recv hG (hG.vo hx0) (ci := 0) rfl)) rfl rfl hl.1 rfl (lv_room (Nat.le_of_ble_eq_true rfl)) dX0_put_116 ⟨by show _ ≤ 560; omega, by show _ ≤ 13200; omega⟩) hG (fun r_46 F_47 V_48 ws_ H locs hp hG => ?_)
          obtain ⟨rfl, rfl, hS9, rfl⟩ := hp
          have hG : gW X Fx_44 V_48 (Z) s H locs := hG
          refine lv_bipush (v := zI 10) hx hb dX0_put_119 (by decide +kernel) ?_
          refine g_isub hx hb dX0_put_121 ?_
          refine vx_ret ?_
          exact g_iret hx hb hr hlocks hG (by have e9 : opPut a (v1 : Int) (y1 : Int) k = aNoT a 5 := (by unfold opPut; rw [if_neg (by omega), if_pos (by omega)]; first | done | rfl); rw [e9]; exact ⟨hle_Fx_44, rfl, hS9.ex, rfl⟩) ⟨by show _ ≤ 560; omega, by show _ ≤ 13200; omega⟩ dX0_put_122
        exact hp.elim
    · refine g_xr (vx_runV (As := [.int (zI y)]) (rest := []) ⟨hx, hb, hml, hown, hts⟩ (metX0_revision_f hS hA (by omega)) (cwV 1 hts (lw_V q737 q739 qs4 q87 q740) rfl rfl rfl (by decide +kernel) ⟨Nat.le_of_ble_eq_true rfl, Nat.le_of_ble_eq_true rfl⟩) (g_preV hG (g_recv hG (hG.vo hx0) (ci := 0) rfl)) rfl rfl hl.1 rfl (lv_room (Nat.le_of_ble_eq_true rfl)) dX0_put_9 ⟨by show _ ≤ 560; omega, by show _ ≤ 13200; omega⟩) hG (fun E9 ce9 q9 Fx_52 Vx_53 ws_ H locs hpx hG hce => ?_) (fun r_49 F_50 V_51 ws_ H locs hp hG => ?_)
      · obtain ⟨rfl, hle_Fx_52, hq9, rfl, rfl⟩ := hpx
        have hG : gW X Fx_52 V (Z) s H locs := hG
        refine g_catch (name := "LineRemarks$Refused") hown htab [] ⟨0, 110, 111, 21⟩ [] rfl (fun z9 hz9 => absurd hz9 List.not_mem_nil) (by decide) (by decide) (hts _ q410) (hG.1.2.1.1 _ qn498) hce ?_
        refine lv_astore (lv' := [(4, .ref q9), (0, .ref x), (1, .int (zI (v1 : Int))), (2, .int (zI y)), (3, .int (zI k))]) hx hb dX0_put_111 hl (by decide) rfl (fun ls hl => ?_)
        refine lv_aload_n hx hb dX0_put_113 rfl (lv_at hl 1 rfl) ?_
        refine lv_aload hx hb dX0_put_114 (lv_at hl 0 rfl) ?_
        refine g_ci (va_runV (As := [.ref q9]) (rest := []) ⟨hx, hb, hml, hown, hts⟩ (metX0_refused (k := 1) (hS.mono hle_Fx_52) hA hq9 (by decide)) (cwV 1 hts (lw_V q589 q591 qs2 q87 q592) rfl rfl rfl (by decide +kernel) ⟨Nat.le_of_ble_eq_true rfl, Nat.le_of_ble_eq_true rfl⟩) (g_preV hG (g_recv hG (hG.vo hx0) (ci := 0) rfl)) rfl rfl hl.1 rfl (lv_room (Nat.le_of_ble_eq_true rfl)) dX0_put_116 ⟨by show _ ≤ 560; omega, by show _ ≤ 13200; omega⟩) hG (fun r_54 F_55 V_56 ws_ H locs hp hG => ?_)
        obtain ⟨rfl, rfl, hS9, rfl⟩ := hp
        have hG : gW X Fx_52 V_56 (Z) s H locs := hG
        refine lv_bipush (v := zI 10) hx hb dX0_put_119 (by decide +kernel) ?_
        refine g_isub hx hb dX0_put_121 ?_
        refine vx_ret ?_
        exact g_iret hx hb hr hlocks hG (by have e9 : opPut a (v1 : Int) y k = aNoT a 1 := (by unfold opPut; rw [if_pos (by omega)]; first | done | rfl); rw [e9]; exact ⟨hle_Fx_52, rfl, hS9.ex, rfl⟩) ⟨by show _ ≤ 560; omega, by show _ ≤ 13200; omega⟩ dX0_put_122
      exact hp.elim
  · refine g_xr (vx_runV (As := [.int (zI v)]) (rest := []) ⟨hx, hb, hml, hown, hts⟩ (metX0_told_f hS hA (by omega)) (cwV 1 hts (lw_V q700 q702 qs3 q87 q703) rfl rfl rfl (by decide +kernel) ⟨Nat.le_of_ble_eq_true rfl, Nat.le_of_ble_eq_true rfl⟩) (g_preV hG (g_recv hG (hG.vo hx0) (ci := 0) rfl)) rfl rfl hl.1 rfl (lv_room (Nat.le_of_ble_eq_true rfl)) dX0_put_2 ⟨by show _ ≤ 560; omega, by show _ ≤ 13200; omega⟩) hG (fun E9 ce9 q9 Fx_60 Vx_61 ws_ H locs hpx hG hce => ?_) (fun r_57 F_58 V_59 ws_ H locs hp hG => ?_)
    · obtain ⟨rfl, hle_Fx_60, hq9, rfl, rfl⟩ := hpx
      have hG : gW X Fx_60 V (Z) s H locs := hG
      refine g_catch (name := "LineRemarks$Refused") hown htab [] ⟨0, 110, 111, 21⟩ [] rfl (fun z9 hz9 => absurd hz9 List.not_mem_nil) (by decide) (by decide) (hts _ q410) (hG.1.2.1.1 _ qn498) hce ?_
      refine lv_astore (lv' := [(4, .ref q9), (0, .ref x), (1, .int (zI v)), (2, .int (zI y)), (3, .int (zI k))]) hx hb dX0_put_111 hl (by decide) rfl (fun ls hl => ?_)
      refine lv_aload_n hx hb dX0_put_113 rfl (lv_at hl 1 rfl) ?_
      refine lv_aload hx hb dX0_put_114 (lv_at hl 0 rfl) ?_
      refine g_ci (va_runV (As := [.ref q9]) (rest := []) ⟨hx, hb, hml, hown, hts⟩ (metX0_refused (k := 1) (hS.mono hle_Fx_60) hA hq9 (by decide)) (cwV 1 hts (lw_V q589 q591 qs2 q87 q592) rfl rfl rfl (by decide +kernel) ⟨Nat.le_of_ble_eq_true rfl, Nat.le_of_ble_eq_true rfl⟩) (g_preV hG (g_recv hG (hG.vo hx0) (ci := 0) rfl)) rfl rfl hl.1 rfl (lv_room (Nat.le_of_ble_eq_true rfl)) dX0_put_116 ⟨by show _ ≤ 560; omega, by show _ ≤ 13200; omega⟩) hG (fun r_62 F_63 V_64 ws_ H locs hp hG => ?_)
      obtain ⟨rfl, rfl, hS9, rfl⟩ := hp
      have hG : gW X Fx_60 V_64 (Z) s H locs := hG
      refine lv_bipush (v := zI 10) hx hb dX0_put_119 (by decide +kernel) ?_
      refine g_isub hx hb dX0_put_121 ?_
      refine vx_ret ?_
      exact g_iret hx hb hr hlocks hG (by have e9 : opPut a v y k = aNoT a 1 := (by unfold opPut; rw [if_pos (by omega)]; first | done | rfl); rw [e9]; exact ⟨hle_Fx_60, rfl, hS9.ex, rfl⟩) ⟨by show _ ≤ 560; omega, by show _ ≤ 13200; omega⟩ dX0_put_122
    exact hp.elim

