set_option maxRecDepth 100000
theorem rdR_en9 {f : Nat → Int} {n : Nat} {dn : Tx} {nw : Ln} (h : rdF f n = (dn, nw, none)) (hn : n ≠ 0) (hw : nw ≠ []) : rdR f n = .inl (dn ++ [nw]) := by
  unfold rdR; rw [h]
  show (if n = 0 then _ else if nw = [] then _ else _) = _
  rw [if_neg hn, if_neg hw]
theorem rdR_cu9 {f : Nat → Int} {n : Nat} {dn : Tx} (h : rdF f n = (dn, [], none)) (hn : n ≠ 0) : rdR f n = .inr n := by
  unfold rdR; rw [h]
  show (if n = 0 then _ else if ([] : Ln) = [] then _ else _) = _
  rw [if_neg hn, if_pos rfl]
theorem rdR_z9 {f : Nat → Int} : rdR f 0 = .inl [] := rfl
theorem ne_len {t : List Nat} (h : 1 ≤ t.length) : t ≠ [] := by rintro rfl; exact absurd h (by decide)
set_option maxHeartbeats 4000000 in
theorem metX11_whole {l : Launch} {X : gX} {F : gF} {V : gV} {Z : va_W} {rd le al : Nat} {lf : Nat → Int32} {ro ar n so rj : Nat} {f : Nat → Int64} (hso : so ≤ 3) (hro : F.1 ro = some (oB (5 + so) [.ref ar])) (hVr : V rj = some (ar, rwE X so n f)) (hfx : ∀ j, j < n → aTrunc so (f j) = f j) (hn160 : n ≤ 160)  : vx_Met l yX11_whole (ws_ yX11_whole cX11_whole 1 (some (FieldType.array (FieldType.object "LineRemarks$Line")))) ({ frames := 8, cells := 660, slots := 13100, locals := 190 }) (gP X F V ((rd, oB 9 [.ref ro, .ref le, .ref al, .int (zI ((0 : Nat) : Int))]) :: (le, aI (gT X 2) 8 lf) :: (al, oB 25 [.int (zI 0), .ref (ga X 300), .int (zI 0)]) :: Z) [.ref rd]) (gQr X (fun u G U ws => gLe F G ∧ V = U ∧ (∃ t, rdR (rwI f) n = .inl t ∧ isText X G u t) ∧ Z = ws)) (gXc X (fun E q G U ws => E = "LineRemarks$Faulty" ∧ gLe F G ∧ (∃ k, rdR (rwI f) n = .inr k ∧ isFau G q k) ∧ V = U ∧ Z = ws)) 660 13100 (gA X) := by
  refine vx_Met.g (by decide) (Nat.le_of_ble_eq_true rfl) ?_
  intro p e s m below meth c ls hx hb hr hts hown hlocks hml hin hnt hG hl
  have hl : lv_has ls 1 [(0, .ref rd)] := hl
  refine lv_aload_n hx hb dX11_whole_0 rfl (lv_at hl 0 rfl) ?_
  refine g_ci (va_runV (As := []) (rest := []) ⟨hx, hb, hml, hown, hts⟩ (metX11_ends (i := 0) hso hro hVr hfx hn160 (by omega)) (cwV 0 hts (lw_V q799 q801 qs5 q118 q802) rfl rfl rfl (by decide +kernel) ⟨Nat.le_of_ble_eq_true rfl, Nat.le_of_ble_eq_true rfl⟩) (g_preV hG (g_recv hG (hG.at 0 rfl) (ci := 9) rfl)) rfl rfl hl.1 rfl (lv_room (Nat.le_of_ble_eq_true rfl)) dX11_whole_1 ⟨by show _ ≤ 660; omega, by show _ ≤ 13100; omega⟩) hG (fun r_1 F_2 V_3 ws_ H locs hp hG => ?_)
  obtain ⟨rfl, rfl, rfl, rfl⟩ := hp
  have hG : gW X F V ((rd, oB 9 [.ref ro, .ref le, .ref al, .int (zI ((0 : Nat) : Int))]) :: (le, aI (gT X 2) 8 lf) :: (al, oB 25 [.int (zI 0), .ref (ga X 300), .int (zI 0)]) :: Z) s H locs := hG
  by_cases hn0 : n = 0
  · refine g_topz (y := 1) (by rw [decide_eq_true (by omega)]; rfl) ?_
    have hn00 : n = 0 := by omega
    refine g_ne (tgt := 11) hx hb dX11_whole_4 (by decide) (by decide) (fun hq => ?_) (fun hq => ?_)
    · refine lv_aload_n hx hb dX11_whole_11 rfl (lv_at hl 0 rfl) ?_
      refine g_ci (va_runV (As := []) (rest := []) ⟨hx, hb, hml, hown, hts⟩ (metX11_ends (i := 0) hso hro hVr hfx hn160 (by omega)) (cwV 0 hts (lw_V q799 q801 qs5 q118 q802) rfl rfl rfl (by decide +kernel) ⟨Nat.le_of_ble_eq_true rfl, Nat.le_of_ble_eq_true rfl⟩) (g_preV hG (g_recv hG (hG.at 0 rfl) (ci := 9) rfl)) rfl rfl hl.1 rfl (lv_room (Nat.le_of_ble_eq_true rfl)) dX11_whole_12 ⟨by show _ ≤ 660; omega, by show _ ≤ 13100; omega⟩) hG (fun r_4 F_5 V_6 ws_ H locs hp hG => ?_)
      obtain ⟨rfl, rfl, rfl, rfl⟩ := hp
      have hG : gW X F V ((rd, oB 9 [.ref ro, .ref le, .ref al, .int (zI ((0 : Nat) : Int))]) :: (le, aI (gT X 2) 8 lf) :: (al, oB 25 [.int (zI 0), .ref (ga X 300), .int (zI 0)]) :: Z) s H locs := hG
      refine g_topz (y := 1) (by rw [decide_eq_true (by omega)]; rfl) ?_
      refine g_ne (tgt := 74) hx hb dX11_whole_15 (by decide) (by decide) (fun hq => ?_) (fun hq => ?_)
      · refine lv_aload_n hx hb dX11_whole_74 rfl (lv_at hl 0 rfl) ?_
        refine g_get (ci := 9) hx hb hts in_X11 hown hG (hG.at 0 rfl) rfl 2 (Nat.le_of_ble_eq_true rfl) (hts _ q784) (fun _ h9 => h9) rfl dX11_whole_75 ?_
        have hG : gW X F V ((al, oB 25 [.int (zI 0), .ref (ga X 300), .int (zI 0)]) :: (rd, oB 9 [.ref ro, .ref le, .ref al, .int (zI ((0 : Nat) : Int))]) :: (le, aI (gT X 2) 8 lf) :: Z) s _ _ := hG.pull 2 rfl rfl
        refine g_cr (va_runS (As := [.ref al]) (rest := []) ⟨hx, hb, hml, hown, hts⟩ (metX0_rowOf_z) (va_cwS 1 hts (lw_S q1288 q1289 q87 q1290) rfl rfl rfl (by decide +kernel) ⟨Nat.le_of_ble_eq_true rfl, Nat.le_of_ble_eq_true rfl⟩) (g_preS hG) rfl rfl hl.1 rfl (lv_room (Nat.le_of_ble_eq_true rfl)) dX11_whole_78 ⟨by show _ ≤ 660; omega, by show _ ≤ 13100; omega⟩) hG (fun row G1 V_7 ws_ H locs hp hG => ?_)
        obtain ⟨hle_G1, rfl, htx9, rfl⟩ := hp
        have hG : gW X G1 V ((al, oB 25 [.int (zI 0), .ref (ga X 300), .int (zI 0)]) :: (rd, oB 9 [.ref ro, .ref le, .ref al, .int (zI ((0 : Nat) : Int))]) :: (le, aI (gT X 2) 8 lf) :: Z) s H locs := hG
        have hG : gW X G1 V ((al, oB 25 [.int (zI 0), .ref (ga X 300), .int (zI 0)]) :: (le, aI (gT X 2) 8 lf) :: Z) s _ _ := hG.drop 1 rfl rfl
        have hG : gW X G1 V ((al, oB 25 [.int (zI 0), .ref (ga X 300), .int (zI 0)]) :: Z) s _ _ := hG.drop 1 rfl rfl
        have hG : gW X G1 V (Z) s _ _ := hG.drop 0 rfl rfl
        refine vx_ret ?_
        exact g_rret hx hb hr (Or.inr ⟨_, rfl⟩) hlocks hG (⟨hle_G1, rfl, ⟨[], by rw [hn00]; rfl, htx9⟩, rfl⟩) ⟨by show _ ≤ 660; omega, by show _ ≤ 13100; omega⟩ dX11_whole_81
      · exfalso; omega
    · exfalso; omega
  · refine g_topz (y := 0) (by rw [decide_eq_false (by omega)]; rfl) ?_
    refine g_ne (tgt := 11) hx hb dX11_whole_4 (by decide) (by decide) (fun hq => ?_) (fun hq => ?_)
    · exfalso; omega
    · refine lv_aload_n hx hb dX11_whole_7 rfl (lv_at hl 0 rfl) ?_
      refine g_xv (vx_runV (As := []) (rest := []) ⟨hx, hb, hml, hown, hts⟩ (metX11_line_z (i := 0) (dn := []) hso hro hVr hfx hn160 (by omega) rfl) (cwV 0 hts (lw_V q818 q820 qs6 q118 q821) rfl rfl rfl (by decide +kernel) ⟨Nat.le_of_ble_eq_true rfl, Nat.le_of_ble_eq_true rfl⟩) (g_preV hG (g_recv hG (hG.at 0 rfl) (ci := 9) rfl)) rfl rfl hl.1 rfl (lv_room (Nat.le_of_ble_eq_true rfl)) dX11_whole_8 ⟨by show _ ≤ 660; omega, by show _ ≤ 13100; omega⟩) hG (fun E9 ce9 q9 Fx_10 Vx_11 ws_ H locs hpx hG hce => ?_) (fun G1 V_9 ws_ H locs hp hG => ?_)
      · obtain ⟨rfl, hle_Fx_10, hq9, hnl9, rfl, rfl⟩ := hpx
        have hG : gW X Fx_10 V ((rd, oB 9 [.ref ro, .ref le, .ref al, .int (zI ((0 : Nat) : Int))]) :: (le, aI (gT X 2) 8 lf) :: (al, oB 25 [.int (zI 0), .ref (ga X 300), .int (zI 0)]) :: Z) s H locs := hG
        have hG : gW X Fx_10 V ((le, aI (gT X 2) 8 lf) :: (al, oB 25 [.int (zI 0), .ref (ga X 300), .int (zI 0)]) :: Z) s _ _ := hG.drop 0 rfl rfl
        have hG : gW X Fx_10 V ((al, oB 25 [.int (zI 0), .ref (ga X 300), .int (zI 0)]) :: Z) s _ _ := hG.drop 0 rfl rfl
        have hG : gW X Fx_10 V (Z) s _ _ := hG.drop 0 rfl rfl
        exact g_out hown hlocks (fun z9 hz9 => (hnt z9 hz9).elim) hG hce (⟨rfl, hle_Fx_10, ⟨_, rdF_at (dn := []) (nw := []) rfl (Or.inr (Or.inl rfl)) (Or.inl (by omega)) (show 0 < n by omega), hq9⟩, rfl, rfl⟩) ⟨by show _ ≤ 660; omega, by show _ ≤ 13100; omega⟩
      obtain ⟨hle_G1, rfl, k, nw, lf9, es, cap, fa, ln, ⟨hk1, hin, hnl, hk8, hrk⟩, hend, hal, hline, rfl⟩ := hp
      have hG : gW X G1 V ((rd, oB 9 [.ref ro, .ref le, .ref al, .int (zI ((0 + k : Nat) : Int))]) :: (le, aI (gT X 2) 8 lf9) :: (al, oB 25 [.int (zI 1), .ref es, .int (zI 1)]) :: (es, aR (gT X 10) cap fa) :: Z) s H locs := hG
      have hG : gW X G1 V ((rd, oB 9 [.ref ro, .ref le, .ref al, .int (zI ((0 + k : Nat) : Int))]) :: (le, aI (gT X 2) 8 lf9) :: (al, oB 25 [.int (zI (0 + 1)), .ref es, .int (zI ([ln].length : Int))]) :: (es, aR (gT X 10) cap fa) :: Z) s H locs := hG
      refine g_loopA (fun mz H locs ls => ∃ (i : Nat) (dn : Tx) (nw : Ln) (lf2 : Nat → Int32) (mo : Int) (es cap : Nat) (fa : Nat → Option Nat) (L : List Nat) (F1 : gF), (i ≤ n ∧ 1 ≤ i ∧ mz = n - i ∧ gLe F F1 ∧ rdF (rwI f) i = (dn, nw, none) ∧ 1 ≤ nw.length ∧ (nw.length = 8 ∨ ¬ (i < n ∧ 97 ≤ rwI f (i) ∧ rwI f (i) ≤ 122)) ∧ alR fa cap L ∧ alT X F1 L (dn ++ [nw])) ∧ gW X F1 V ((rd, oB 9 [.ref ro, .ref le, .ref al, .int (zI ((i : Nat) : Int))]) :: (le, aI (gT X 2) 8 lf2) :: (al, oB 25 [.int (zI mo), .ref es, .int (zI (L.length : Int))]) :: (es, aR (gT X 10) cap fa) :: Z) s H locs ∧ lv_has ls 1 [(0, .ref rd)]) (n - (0 + k)) 4 80 656 13070 ⟨(0 + k), ([]), nw, _, (0 + 1), es, cap, fa, ([ln]), G1, ⟨by omega, by omega, rfl, hle_G1, hrk, by omega, by rw [hnl]; exact hend, hal, alT_app alT_nil hle_G1 hline⟩, hG, hl⟩ ⟨by omega, by omega⟩ (fun mz ihA H locs ls cells slots hroom hI => ?_)
      obtain ⟨i, dn, nw, lf2, mo, es, cap, fa, L, F1, ⟨hi9, hi1, hmz, hle_F1, hrd, hn1, hend, hal, hT⟩, hG, hl⟩ := hI
      have hroF := hle_F1.1 _ _ hro
      have hsz := rdF_sz (f := rwI f) i
      rw [hrd] at hsz
      have hdl : dn.length ≤ 23 := hsz.1
      have hLl : L.length = dn.length + 1 := by rw [hT.1, List.length_append]; rfl
      refine lv_aload_n hx hb dX11_whole_11 rfl (lv_at hl 0 rfl) ?_
      refine g_ci (va_runV (As := []) (rest := []) ⟨hx, hb, hml, hown, hts⟩ (metX11_ends (i := i) hso hroF hVr hfx hn160 (by omega)) (cwV 0 hts (lw_V q799 q801 qs5 q118 q802) rfl rfl rfl (by decide +kernel) ⟨Nat.le_of_ble_eq_true rfl, Nat.le_of_ble_eq_true rfl⟩) (g_preV hG (g_recv hG (hG.at 0 rfl) (ci := 9) rfl)) rfl rfl hl.1 rfl (lv_room (Nat.le_of_ble_eq_true rfl)) dX11_whole_12 ⟨by show _ ≤ 660; omega, by show _ ≤ 13100; omega⟩) hG (fun r_12 F_13 V_14 ws_ H locs hp hG => ?_)
      obtain ⟨rfl, rfl, rfl, rfl⟩ := hp
      have hG : gW X F1 V ((rd, oB 9 [.ref ro, .ref le, .ref al, .int (zI ((i : Nat) : Int))]) :: (le, aI (gT X 2) 8 lf2) :: (al, oB 25 [.int (zI mo), .ref es, .int (zI (L.length : Int))]) :: (es, aR (gT X 10) cap fa) :: Z) s H locs := hG
      by_cases hie : i = n
      · refine g_topz (y := 1) (by rw [decide_eq_true hie]; rfl) ?_
        subst hie
        refine g_ne (tgt := 74) hx hb dX11_whole_15 (by decide) (by decide) (fun hq => ?_) (fun hq => ?_)
        · refine lv_aload_n hx hb dX11_whole_74 rfl (lv_at hl 0 rfl) ?_
          refine g_get (ci := 9) hx hb hts in_X11 hown hG (hG.at 0 rfl) rfl 2 (Nat.le_of_ble_eq_true rfl) (hts _ q784) (fun _ h9 => h9) rfl dX11_whole_75 ?_
          have hG : gW X F1 V ((es, aR (gT X 10) cap fa) :: (rd, oB 9 [.ref ro, .ref le, .ref al, .int (zI ((i : Nat) : Int))]) :: (le, aI (gT X 2) 8 lf2) :: (al, oB 25 [.int (zI mo), .ref es, .int (zI (L.length : Int))]) :: Z) s _ _ := hG.pull 3 rfl rfl
          have hG : gW X F1 V ((al, oB 25 [.int (zI mo), .ref es, .int (zI (L.length : Int))]) :: (es, aR (gT X 10) cap fa) :: (rd, oB 9 [.ref ro, .ref le, .ref al, .int (zI ((i : Nat) : Int))]) :: (le, aI (gT X 2) 8 lf2) :: Z) s _ _ := hG.pull 3 rfl rfl
          refine g_cr (va_runS (As := [.ref al]) (rest := []) ⟨hx, hb, hml, hown, hts⟩ (metX0_rowOf_a hal hT (by rw [List.length_append]; show dn.length + 1 ≤ 24; omega)) (va_cwS 1 hts (lw_S q1288 q1289 q87 q1290) rfl rfl rfl (by decide +kernel) ⟨Nat.le_of_ble_eq_true rfl, Nat.le_of_ble_eq_true rfl⟩) (g_preS hG) rfl rfl hl.1 rfl (lv_room (Nat.le_of_ble_eq_true rfl)) dX11_whole_78 ⟨by show _ ≤ 660; omega, by show _ ≤ 13100; omega⟩) hG (fun row G2 V_15 ws_ H locs hp hG => ?_)
          obtain ⟨hle_G2, rfl, htx9, rfl⟩ := hp
          have hG : gW X G2 V ((al, oB 25 [.int (zI mo), .ref es, .int (zI (L.length : Int))]) :: (es, aR (gT X 10) cap fa) :: (rd, oB 9 [.ref ro, .ref le, .ref al, .int (zI ((i : Nat) : Int))]) :: (le, aI (gT X 2) 8 lf2) :: Z) s H locs := hG
          have hG : gW X G2 V ((al, oB 25 [.int (zI mo), .ref es, .int (zI (L.length : Int))]) :: (es, aR (gT X 10) cap fa) :: (le, aI (gT X 2) 8 lf2) :: Z) s _ _ := hG.drop 2 rfl rfl
          have hG : gW X G2 V ((al, oB 25 [.int (zI mo), .ref es, .int (zI (L.length : Int))]) :: (es, aR (gT X 10) cap fa) :: Z) s _ _ := hG.drop 2 rfl rfl
          have hG : gW X G2 V ((es, aR (gT X 10) cap fa) :: Z) s _ _ := hG.drop 0 rfl rfl
          have hG : gW X G2 V (Z) s _ _ := hG.drop 0 rfl rfl
          refine vx_ret ?_
          exact g_rret hx hb hr (Or.inr ⟨_, rfl⟩) hlocks hG (⟨hle_F1.tr hle_G2, rfl, ⟨_, rdR_en9 hrd (by omega) (ne_len hn1), htx9⟩, rfl⟩) ⟨by show _ ≤ 660; omega, by show _ ≤ 13100; omega⟩ dX11_whole_81
        · exfalso; omega
      · refine g_topz (y := 0) (by rw [decide_eq_false hie]; rfl) ?_
        have hrg := rwI_R f i
        refine g_ne (tgt := 74) hx hb dX11_whole_15 (by decide) (by decide) (fun hq => ?_) (fun hq => ?_)
        · exfalso; omega
        · refine lv_aload_n hx hb dX11_whole_18 rfl (lv_at hl 0 rfl) ?_
          refine lv_aload_n hx hb dX11_whole_19 rfl (lv_at hl 0 rfl) ?_
          refine g_get (ci := 9) hx hb hts in_X11 hown hG (hG.at 0 rfl) rfl 0 (Nat.le_of_ble_eq_true rfl) (hts _ q782) (fun _ h9 => h9) rfl dX11_whole_20 ?_
          refine lv_aload_n hx hb dX11_whole_23 rfl (lv_at hl 0 rfl) ?_
          refine g_get (ci := 9) hx hb hts in_X11 hown hG (hG.at 0 rfl) rfl 3 (Nat.le_of_ble_eq_true rfl) (hts _ q785) (fun _ h9 => h9) rfl dX11_whole_24 ?_
          refine g_ci (run_row_asInt hso hroF hVr (i := i) (by omega) (hfx i (by omega)) ⟨hx, hb, hml, hown, hts⟩ q826 hG ⟨Nat.le_of_ble_eq_true rfl, Nat.le_of_ble_eq_true rfl⟩ hl.1 (lv_room (Nat.le_of_ble_eq_true rfl)) dX11_whole_27 ⟨by show _ ≤ 660; omega, by show _ ≤ 13100; omega⟩) hG (fun r_16 F_17 V_18 ws_ H locs hp hG => ?_)
          obtain ⟨rfl, rfl, rfl, rfl⟩ := hp
          have hG : gW X F1 V ((rd, oB 9 [.ref ro, .ref le, .ref al, .int (zI ((i : Nat) : Int))]) :: (le, aI (gT X 2) 8 lf2) :: (al, oB 25 [.int (zI mo), .ref es, .int (zI (L.length : Int))]) :: (es, aR (gT X 10) cap fa) :: Z) s H locs := hG
          refine lv_topx (zI (rwI f i)) (rwI_z _ _) ?_
          refine lv_bipush (v := zI 47) hx hb dX11_whole_30 (by decide +kernel) ?_
          refine g_cne (tgt := 53) hx hb dX11_whole_32 (by decide) (by omega) (fun h5 => ?_) (fun h5 => ?_)
          · refine lv_iconst (v := zI 0) hx hb dX11_whole_53 (by decide +kernel) ?_
            refine g_xv (vx_runV (As := [.int (zI 0)]) (rest := []) ⟨hx, hb, hml, hown, hts⟩ (metX11_holds_f (by omega)) (cwV 1 hts (lw_V q835 q837 qs8 q118 q838) rfl rfl rfl (by decide +kernel) ⟨Nat.le_of_ble_eq_true rfl, Nat.le_of_ble_eq_true rfl⟩) (g_preV hG (g_recv hG (hG.at 0 rfl) (ci := 9) rfl)) rfl rfl hl.1 rfl (lv_room (Nat.le_of_ble_eq_true rfl)) dX11_whole_54 ⟨by show _ ≤ 660; omega, by show _ ≤ 13100; omega⟩) hG (fun E9 ce9 q9 Fx_22 Vx_23 ws_ H locs hpx hG hce => ?_) (fun F_20 V_21 ws_ H locs hp hG => ?_)
            · obtain ⟨rfl, hle_Fx_22, hq9, rfl, rfl⟩ := hpx
              have hG : gW X Fx_22 V ((rd, oB 9 [.ref ro, .ref le, .ref al, .int (zI ((i : Nat) : Int))]) :: (le, aI (gT X 2) 8 lf2) :: (al, oB 25 [.int (zI mo), .ref es, .int (zI (L.length : Int))]) :: (es, aR (gT X 10) cap fa) :: Z) s H locs := hG
              have hG : gW X Fx_22 V ((le, aI (gT X 2) 8 lf2) :: (al, oB 25 [.int (zI mo), .ref es, .int (zI (L.length : Int))]) :: (es, aR (gT X 10) cap fa) :: Z) s _ _ := hG.drop 0 rfl rfl
              have hG : gW X Fx_22 V ((al, oB 25 [.int (zI mo), .ref es, .int (zI (L.length : Int))]) :: (es, aR (gT X 10) cap fa) :: Z) s _ _ := hG.drop 0 rfl rfl
              have hG : gW X Fx_22 V ((es, aR (gT X 10) cap fa) :: Z) s _ _ := hG.drop 0 rfl rfl
              have hG : gW X Fx_22 V (Z) s _ _ := hG.drop 0 rfl rfl
              exact g_out hown hlocks (fun z9 hz9 => (hnt z9 hz9).elim) hG hce (⟨rfl, (hle_F1.tr hle_Fx_22), ⟨_, rdF_at hrd (Or.inl h5) (by rcases hend with q | q; exact Or.inr q; exact Or.inl (by omega)) (by omega), hq9⟩, rfl, rfl⟩) ⟨by show _ ≤ 660; omega, by show _ ≤ 13100; omega⟩
            exact hp.elim
          · have h47 : rwI f i = 47 := by omega
            refine lv_aload_n hx hb dX11_whole_35 rfl (lv_at hl 0 rfl) ?_
            refine g_get (ci := 9) hx hb hts in_X11 hown hG (hG.at 0 rfl) rfl 2 (Nat.le_of_ble_eq_true rfl) (hts _ q784) (fun _ h9 => h9) rfl dX11_whole_36 ?_
            have hG : gW X F1 V ((al, oB 25 [.int (zI mo), .ref es, .int (zI (L.length : Int))]) :: (rd, oB 9 [.ref ro, .ref le, .ref al, .int (zI ((i : Nat) : Int))]) :: (le, aI (gT X 2) 8 lf2) :: (es, aR (gT X 10) cap fa) :: Z) s _ _ := hG.pull 2 rfl rfl
            refine g_Fi (va_runF (C := "java/util/ArrayList") (g_cls hG (ci := 25) rfl) (As := []) (rest := [.ref rd]) ⟨hx, hb, hml, hown, hts⟩ (metJ19_size) (va_cwF 0 hts (lw_F q1266 q1269 q926 q120 q927) rfl rfl rfl (hG.1.2.1.2.2.1 _ qf1) (by decide +kernel) ⟨Nat.le_of_ble_eq_true rfl, Nat.le_of_ble_eq_true rfl⟩) (g_preV hG (g_recv hG (hG.at 0 rfl) (ci := 25) rfl)) rfl rfl hl.1 rfl (lv_room (Nat.le_of_ble_eq_true rfl)) dX11_whole_39 ⟨by show _ ≤ 660; omega, by show _ ≤ 13100; omega⟩) hG (fun r_24 F_25 V_26 ws_ H locs hp hG => ?_)
            obtain ⟨rfl, rfl, rfl, rfl⟩ := hp
            have hG : gW X F1 V ((al, oB 25 [.int (zI mo), .ref es, .int (zI (L.length : Int))]) :: (rd, oB 9 [.ref ro, .ref le, .ref al, .int (zI ((i : Nat) : Int))]) :: (le, aI (gT X 2) 8 lf2) :: (es, aR (gT X 10) cap fa) :: Z) s H locs := hG
            refine lv_bipush (v := zI 24) hx hb dX11_whole_44 (by decide +kernel) ?_
            refine g_cge (tgt := 53) hx hb dX11_whole_46 (by decide) (by omega) (fun h6 => ?_) (fun h6 => ?_)
            · refine lv_iconst (v := zI 0) hx hb dX11_whole_53 (by decide +kernel) ?_
              have hG : gW X F1 V ((rd, oB 9 [.ref ro, .ref le, .ref al, .int (zI ((i : Nat) : Int))]) :: (al, oB 25 [.int (zI mo), .ref es, .int (zI (L.length : Int))]) :: (le, aI (gT X 2) 8 lf2) :: (es, aR (gT X 10) cap fa) :: Z) s _ _ := hG.pull 1 rfl rfl
              refine g_xv (vx_runV (As := [.int (zI 0)]) (rest := []) ⟨hx, hb, hml, hown, hts⟩ (metX11_holds_f (by omega)) (cwV 1 hts (lw_V q835 q837 qs8 q118 q838) rfl rfl rfl (by decide +kernel) ⟨Nat.le_of_ble_eq_true rfl, Nat.le_of_ble_eq_true rfl⟩) (g_preV hG (g_recv hG (hG.at 0 rfl) (ci := 9) rfl)) rfl rfl hl.1 rfl (lv_room (Nat.le_of_ble_eq_true rfl)) dX11_whole_54 ⟨by show _ ≤ 660; omega, by show _ ≤ 13100; omega⟩) hG (fun E9 ce9 q9 Fx_30 Vx_31 ws_ H locs hpx hG hce => ?_) (fun F_28 V_29 ws_ H locs hp hG => ?_)
              · obtain ⟨rfl, hle_Fx_30, hq9, rfl, rfl⟩ := hpx
                have hG : gW X Fx_30 V ((rd, oB 9 [.ref ro, .ref le, .ref al, .int (zI ((i : Nat) : Int))]) :: (al, oB 25 [.int (zI mo), .ref es, .int (zI (L.length : Int))]) :: (le, aI (gT X 2) 8 lf2) :: (es, aR (gT X 10) cap fa) :: Z) s H locs := hG
                have hG : gW X Fx_30 V ((al, oB 25 [.int (zI mo), .ref es, .int (zI (L.length : Int))]) :: (le, aI (gT X 2) 8 lf2) :: (es, aR (gT X 10) cap fa) :: Z) s _ _ := hG.drop 0 rfl rfl
                have hG : gW X Fx_30 V ((al, oB 25 [.int (zI mo), .ref es, .int (zI (L.length : Int))]) :: (es, aR (gT X 10) cap fa) :: Z) s _ _ := hG.drop 1 rfl rfl
                have hG : gW X Fx_30 V ((es, aR (gT X 10) cap fa) :: Z) s _ _ := hG.drop 0 rfl rfl
                have hG : gW X Fx_30 V (Z) s _ _ := hG.drop 0 rfl rfl
                exact g_out hown hlocks (fun z9 hz9 => (hnt z9 hz9).elim) hG hce (⟨rfl, (hle_F1.tr hle_Fx_30), ⟨_, rdF_at hrd (Or.inr (Or.inr (by omega))) (Or.inl (by omega)) (by omega), hq9⟩, rfl, rfl⟩) ⟨by show _ ≤ 660; omega, by show _ ≤ 13100; omega⟩
              exact hp.elim
            · refine lv_iconst (v := zI 1) hx hb dX11_whole_49 (by decide +kernel) ?_
              refine lv_goto (tgt := 54) hx hb dX11_whole_50 (by decide) ?_
              have hG : gW X F1 V ((rd, oB 9 [.ref ro, .ref le, .ref al, .int (zI ((i : Nat) : Int))]) :: (al, oB 25 [.int (zI mo), .ref es, .int (zI (L.length : Int))]) :: (le, aI (gT X 2) 8 lf2) :: (es, aR (gT X 10) cap fa) :: Z) s _ _ := hG.pull 1 rfl rfl
              refine g_cv (va_runV (As := [.int (zI 1)]) (rest := []) ⟨hx, hb, hml, hown, hts⟩ (metX11_holds_t (b := 1) (by decide)) (cwV 1 hts (lw_V q835 q837 qs8 q118 q838) rfl rfl rfl (by decide +kernel) ⟨Nat.le_of_ble_eq_true rfl, Nat.le_of_ble_eq_true rfl⟩) (g_preV hG (g_recv hG (hG.at 0 rfl) (ci := 9) rfl)) rfl rfl hl.1 rfl (lv_room (Nat.le_of_ble_eq_true rfl)) dX11_whole_54 ⟨by show _ ≤ 660; omega, by show _ ≤ 13100; omega⟩) hG (fun F_33 V_34 ws_ H locs hp hG => ?_)
              obtain ⟨rfl, rfl, rfl⟩ := hp
              have hG : gW X F1 V ((rd, oB 9 [.ref ro, .ref le, .ref al, .int (zI ((i : Nat) : Int))]) :: (al, oB 25 [.int (zI mo), .ref es, .int (zI (L.length : Int))]) :: (le, aI (gT X 2) 8 lf2) :: (es, aR (gT X 10) cap fa) :: Z) s H locs := hG
              have hrd2 := rdF_ends hrd h47 (by omega) (by omega)
              refine lv_aload_n hx hb dX11_whole_57 rfl (lv_at hl 0 rfl) ?_
              refine lv_dup hx hb dX11_whole_58 rfl ?_
              refine g_get (ci := 9) hx hb hts in_X11 hown hG (hG.at 0 rfl) rfl 3 (Nat.le_of_ble_eq_true rfl) (hts _ q785) (fun _ h9 => h9) rfl dX11_whole_59 ?_
              refine lv_iconst (v := zI 1) hx hb dX11_whole_62 (by decide +kernel) ?_
              refine g_iadd hx hb dX11_whole_63 ?_
              refine g_put (ci := 9) hx hb hts in_X11 tyX11 tyX11_ok nmX11 hown hG 0 rfl rfl 3 (Nat.le_of_ble_eq_true rfl) (hts _ q785) (fun _ h9 => h9) rfl (tyX11_ok 3 (Nat.le_of_ble_eq_true rfl)) rfl rfl (Nat.le_of_ble_eq_true rfl) dX11_whole_64 (fun H locs (hG : gW X F1 V ((rd, oB 9 [.ref ro, .ref le, .ref al, .int (zI (((i : Nat) : Int) + 1))]) :: (al, oB 25 [.int (zI mo), .ref es, .int (zI (L.length : Int))]) :: (le, aI (gT X 2) 8 lf2) :: (es, aR (gT X 10) cap fa) :: Z) s H locs) => ?_)
              refine lv_aload_n hx hb dX11_whole_67 rfl (lv_at hl 0 rfl) ?_
              have hG : gW X F1 V ((es, aR (gT X 10) cap fa) :: (rd, oB 9 [.ref ro, .ref le, .ref al, .int (zI (((i : Nat) : Int) + 1))]) :: (al, oB 25 [.int (zI mo), .ref es, .int (zI (L.length : Int))]) :: (le, aI (gT X 2) 8 lf2) :: Z) s _ _ := hG.pull 3 rfl rfl
              have hG : gW X F1 V ((al, oB 25 [.int (zI mo), .ref es, .int (zI (L.length : Int))]) :: (es, aR (gT X 10) cap fa) :: (rd, oB 9 [.ref ro, .ref le, .ref al, .int (zI (((i : Nat) : Int) + 1))]) :: (le, aI (gT X 2) 8 lf2) :: Z) s _ _ := hG.pull 2 rfl rfl
              have hG : gW X F1 V ((le, aI (gT X 2) 8 lf2) :: (al, oB 25 [.int (zI mo), .ref es, .int (zI (L.length : Int))]) :: (es, aR (gT X 10) cap fa) :: (rd, oB 9 [.ref ro, .ref le, .ref al, .int (zI (((i : Nat) : Int) + 1))]) :: Z) s _ _ := hG.pull 3 rfl rfl
              have hG : gW X F1 V ((rd, oB 9 [.ref ro, .ref le, .ref al, .int (zI (((i : Nat) : Int) + 1))]) :: (le, aI (gT X 2) 8 lf2) :: (al, oB 25 [.int (zI mo), .ref es, .int (zI (L.length : Int))]) :: (es, aR (gT X 10) cap fa) :: Z) s _ _ := hG.pull 3 rfl rfl
              have hG : gW X F1 V ((rd, oB 9 [.ref ro, .ref le, .ref al, .int (zI ((i + 1 : Nat) : Int))]) :: (le, aI (gT X 2) 8 lf2) :: (al, oB 25 [.int (zI mo), .ref es, .int (zI (L.length : Int))]) :: (es, aR (gT X 10) cap fa) :: Z) s H locs := hG
              refine g_xv (vx_runV (As := []) (rest := []) ⟨hx, hb, hml, hown, hts⟩ (metX11_line_s (i := i + 1) hso hroF hVr hfx hn160 hal (alT_el hT) (by omega) (by omega) hrd2) (cwV 0 hts (lw_V q818 q820 qs6 q118 q821) rfl rfl rfl (by decide +kernel) ⟨Nat.le_of_ble_eq_true rfl, Nat.le_of_ble_eq_true rfl⟩) (g_preV hG (g_recv hG (hG.at 0 rfl) (ci := 9) rfl)) rfl rfl hl.1 rfl (lv_room (Nat.le_of_ble_eq_true rfl)) dX11_whole_68 ⟨by show _ ≤ 660; omega, by show _ ≤ 13100; omega⟩) hG (fun E9 ce9 q9 Fx_37 Vx_38 ws_ H locs hpx hG hce => ?_) (fun G2 V_36 ws_ H locs hp hG => ?_)
              · obtain ⟨rfl, hle_Fx_37, hq9, hnl9, rfl, rfl⟩ := hpx
                have hG : gW X Fx_37 V ((rd, oB 9 [.ref ro, .ref le, .ref al, .int (zI ((i + 1 : Nat) : Int))]) :: (le, aI (gT X 2) 8 lf2) :: (al, oB 25 [.int (zI mo), .ref es, .int (zI (L.length : Int))]) :: (es, aR (gT X 10) cap fa) :: Z) s H locs := hG
                by_cases hi2 : i + 1 < n
                · have hG : gW X Fx_37 V ((le, aI (gT X 2) 8 lf2) :: (al, oB 25 [.int (zI mo), .ref es, .int (zI (L.length : Int))]) :: (es, aR (gT X 10) cap fa) :: Z) s _ _ := hG.drop 0 rfl rfl
                  have hG : gW X Fx_37 V ((al, oB 25 [.int (zI mo), .ref es, .int (zI (L.length : Int))]) :: (es, aR (gT X 10) cap fa) :: Z) s _ _ := hG.drop 0 rfl rfl
                  have hG : gW X Fx_37 V ((es, aR (gT X 10) cap fa) :: Z) s _ _ := hG.drop 0 rfl rfl
                  have hG : gW X Fx_37 V (Z) s _ _ := hG.drop 0 rfl rfl
                  exact g_out hown hlocks (fun z9 hz9 => (hnt z9 hz9).elim) hG hce (⟨rfl, (hle_F1.tr hle_Fx_37), ⟨_, rdF_at hrd2 (Or.inr (Or.inl rfl)) (Or.inl (by omega)) hi2, hq9⟩, rfl, rfl⟩) ⟨by show _ ≤ 660; omega, by show _ ≤ 13100; omega⟩
                · have hG : gW X Fx_37 V ((le, aI (gT X 2) 8 lf2) :: (al, oB 25 [.int (zI mo), .ref es, .int (zI (L.length : Int))]) :: (es, aR (gT X 10) cap fa) :: Z) s _ _ := hG.drop 0 rfl rfl
                  have hG : gW X Fx_37 V ((al, oB 25 [.int (zI mo), .ref es, .int (zI (L.length : Int))]) :: (es, aR (gT X 10) cap fa) :: Z) s _ _ := hG.drop 0 rfl rfl
                  have hG : gW X Fx_37 V ((es, aR (gT X 10) cap fa) :: Z) s _ _ := hG.drop 0 rfl rfl
                  have hG : gW X Fx_37 V (Z) s _ _ := hG.drop 0 rfl rfl
                  have hie2 : i + 1 = n := by omega
                  rw [hie2] at hrd2 hq9
                  exact g_out hown hlocks (fun z9 hz9 => (hnt z9 hz9).elim) hG hce (⟨rfl, (hle_F1.tr hle_Fx_37), ⟨_, rdR_cu9 hrd2 (by omega), hq9⟩, rfl, rfl⟩) ⟨by show _ ≤ 660; omega, by show _ ≤ 13100; omega⟩
              obtain ⟨hle_G2, rfl, k2, nw2, lf3, es3, cap3, fa3, ln3, ⟨hk1, hin, hnl, hk8, hrk⟩, hend3, hal3, hline3, rfl⟩ := hp
              have hG : gW X G2 V ((rd, oB 9 [.ref ro, .ref le, .ref al, .int (zI ((i + 1 + k2 : Nat) : Int))]) :: (le, aI (gT X 2) 8 lf3) :: (al, oB 25 [.int (zI (mo + 1)), .ref es3, .int (zI ((L.length : Int) + 1))]) :: (es3, aR (gT X 10) cap3 fa3) :: Z) s H locs := hG
              refine lv_goto (tgt := 11) hx hb dX11_whole_71 (by decide) ?_
              have hLs : ((L.length : Int) + 1) = (((L ++ [ln3]).length : Nat) : Int) := by rw [List.length_append]; rfl
              have hG : gW X G2 V ((rd, oB 9 [.ref ro, .ref le, .ref al, .int (zI ((i + 1 + k2 : Nat) : Int))]) :: (le, aI (gT X 2) 8 lf3) :: (al, oB 25 [.int (zI (mo + 1)), .ref es3, .int (zI ((L ++ [ln3]).length : Int))]) :: (es3, aR (gT X 10) cap3 fa3) :: Z) s H locs := by rw [← hLs]; exact hG
              have r5 : n - (i + 1 + k2) < mz := by omega
              exact ihA (n - (i + 1 + k2)) r5 H locs ls _ _ (room_U hroom r5) ⟨(i + 1 + k2), (dn ++ [nw]), nw2, _, (mo + 1), es3, cap3, fa3, (L ++ [ln3]), G2, ⟨by omega, by omega, rfl, hle_F1.tr hle_G2, hrk, by omega, by rw [hnl]; exact hend3, hal3, alT_app hT hle_G2 hline3⟩, hG, hl⟩

