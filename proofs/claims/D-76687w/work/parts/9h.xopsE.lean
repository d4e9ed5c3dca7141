set_option maxRecDepth 100000
theorem nw_R {t : List Nat} {j : Nat} (h : ∀ x ∈ t, 97 ≤ x ∧ x ≤ 122) (hj : j < t.length) : 97 ≤ t.getD j 0 ∧ t.getD j 0 ≤ 122 := by
  rw [List.getD_eq_getElem?_getD, List.getElem?_eq_getElem hj]
  exact h _ (List.getElem_mem hj)
theorem alT_el {X : gX} {F : gF} {L : List Nat} {t : Tx} (h : alT X F L t) : ∀ y ∈ L, isEl X F y := by
  intro y hy
  obtain ⟨i, hi, rfl⟩ := List.getElem_of_mem hy
  have := h.2 i (by rw [← h.1]; exact hi)
  rw [List.getD_eq_getElem?_getD, List.getElem?_eq_getElem hi] at this
  exact Or.inl ⟨_, this⟩
set_option maxHeartbeats 4000000 in
theorem metX11_line_z {l : Launch} {X : gX} {F : gF} {V : gV} {Z : va_W} {rd le al i : Nat} {mo : Int} {lf : Nat → Int32} {ro ar n so rj : Nat} {f : Nat → Int64} (hso : so ≤ 3) (hro : F.1 ro = some (oB (5 + so) [.ref ar])) (hVr : V rj = some (ar, rwE X so n f)) (hfx : ∀ j, j < n → aTrunc so (f j) = f j) (hn160 : n ≤ 160) {dn : Tx} (hi9 : i ≤ n) (hrd : rdF (rwI f) i = (dn, [], none)) : vx_Met l yX11_line (ws_ yX11_line cX11_line 2 none) ({ frames := 5, cells := 4, slots := 80, locals := 110 }) (gP X F V ((rd, oB 9 [.ref ro, .ref le, .ref al, .int (zI (i : Int))]) :: (le, aI (gT X 2) 8 lf) :: (al, oB 25 [.int (zI mo), .ref (ga X 300), .int (zI 0)]) :: Z) [.ref rd]) (gQv X (fun G U ws => gLe F G ∧ V = U ∧ ∃ (k : Nat) (nw : List Nat) (lf9 : Nat → Int32) (es9 cap9 : Nat) (f9 : Nat → Option Nat) (ln : Nat), (1 ≤ k ∧ i + k ≤ n ∧ nw.length = k ∧ k ≤ 8 ∧ rdF (rwI f) (i + k) = (dn, nw, none)) ∧ (k = 8 ∨ ¬ (i + k < n ∧ 97 ≤ rwI f (i + k) ∧ rwI f (i + k) ≤ 122)) ∧ alR f9 cap9 ([ln]) ∧ isLine X G ln nw ∧ ((rd, oB 9 [.ref ro, .ref le, .ref al, .int (zI ((i + k : Nat) : Int))]) :: (le, aI (gT X 2) 8 lf9) :: (al, oB 25 [.int (zI (mo + 1)), .ref es9, .int (zI 1)]) :: (es9, aR (gT X 10) cap9 f9) :: Z) = ws)) (gXc X (fun E q G U ws => E = "LineRemarks$Faulty" ∧ gLe F G ∧ isFau G q i ∧ ¬ (i < n ∧ 97 ≤ rwI f (i) ∧ rwI f (i) ≤ 122) ∧ V = U ∧ ((rd, oB 9 [.ref ro, .ref le, .ref al, .int (zI (i : Int))]) :: (le, aI (gT X 2) 8 lf) :: (al, oB 25 [.int (zI mo), .ref (ga X 300), .int (zI 0)]) :: Z) = ws)) 4 80 (gA X) := by
  refine vx_Met.g (by decide) (Nat.le_of_ble_eq_true rfl) ?_
  intro p e s m below meth c ls hx hb hr hts hown hlocks hml hin hnt hG hl
  have hl : lv_has ls 2 [(0, .ref rd)] := hl
  have hsz0 := rdF_sz (f := rwI f) i
  refine lv_aload_n hx hb dX11_line_0 rfl (lv_at hl 0 rfl) ?_
  refine lv_aload_n hx hb dX11_line_1 rfl (lv_at hl 0 rfl) ?_
  refine g_ci (va_runV (As := []) (rest := [.ref rd]) ⟨hx, hb, hml, hown, hts⟩ (metX11_letter hso hro hVr hfx hn160 hi9) (cwV 0 hts (lw_V q822 q824 qs7 q118 q825) rfl rfl rfl (by decide +kernel) ⟨Nat.le_of_ble_eq_true rfl, Nat.le_of_ble_eq_true rfl⟩) (g_preV hG (g_recv hG (hG.at 0 rfl) (ci := 9) rfl)) rfl rfl hl.1 rfl (lv_room (Nat.le_of_ble_eq_true rfl)) dX11_line_2 ⟨by show _ ≤ 4; omega, by show _ ≤ 80; omega⟩) hG (fun r_1 F_2 V_3 ws_ H locs hp hG => ?_)
  obtain ⟨rfl, rfl, rfl, rfl⟩ := hp
  have hG : gW X F V ((rd, oB 9 [.ref ro, .ref le, .ref al, .int (zI (i : Int))]) :: (le, aI (gT X 2) 8 lf) :: (al, oB 25 [.int (zI mo), .ref (ga X 300), .int (zI 0)]) :: Z) s H locs := hG
  by_cases hlt : (i < n ∧ 97 ≤ rwI f (i) ∧ rwI f (i) ≤ 122)
  · refine g_topz (y := 1) (by rw [decide_eq_true hlt]; rfl) ?_
    refine g_cv (va_runV (As := [.int (zI 1)]) (rest := []) ⟨hx, hb, hml, hown, hts⟩ (metX11_holds_t (b := 1) (by decide)) (cwV 1 hts (lw_V q835 q837 qs8 q118 q838) rfl rfl rfl (by decide +kernel) ⟨Nat.le_of_ble_eq_true rfl, Nat.le_of_ble_eq_true rfl⟩) (g_preV hG (g_recv hG (hG.at 0 rfl) (ci := 9) rfl)) rfl rfl hl.1 rfl (lv_room (Nat.le_of_ble_eq_true rfl)) dX11_line_5 ⟨by show _ ≤ 4; omega, by show _ ≤ 80; omega⟩) hG (fun F_5 V_6 ws_ H locs hp hG => ?_)
    obtain ⟨rfl, rfl, rfl⟩ := hp
    have hG : gW X F V ((rd, oB 9 [.ref ro, .ref le, .ref al, .int (zI (i : Int))]) :: (le, aI (gT X 2) 8 lf) :: (al, oB 25 [.int (zI mo), .ref (ga X 300), .int (zI 0)]) :: Z) s H locs := hG
    refine lv_iconst (v := zI 0) hx hb dX11_line_8 (by decide +kernel) ?_
    refine lv_istore_n (lv' := [(1, .int (zI 0)), (0, .ref rd)]) hx hb dX11_line_9 rfl hl (by decide) rfl (fun ls hl => ?_)
    have hl : lv_has ls 2 [(1, .int (zI ((0 : Nat) : Int))), (0, .ref rd)] := by exact hl
    have hG : gW X F V ((rd, oB 9 [.ref ro, .ref le, .ref al, .int (zI ((i + 0 : Nat) : Int))]) :: (le, aI (gT X 2) 8 lf) :: (al, oB 25 [.int (zI mo), .ref (ga X 300), .int (zI 0)]) :: Z) s H locs := hG
    refine g_loop (fun mz H locs ls => ∃ (k : Nat) (lf9 : Nat → Int32) (nw : List Nat), (k ≤ 8 ∧ mz = 8 - k ∧ i + k ≤ n ∧ nw.length = k ∧ rdF (rwI f) (i + k) = (dn, nw, none) ∧ ∀ j, j < k → lf9 j = zI (nw.getD j 0 : Nat)) ∧ gW X F V ((rd, oB 9 [.ref ro, .ref le, .ref al, .int (zI ((i + k : Nat) : Int))]) :: (le, aI (gT X 2) 8 lf9) :: (al, oB 25 [.int (zI mo), .ref (ga X 300), .int (zI 0)]) :: Z) s H locs ∧ lv_has ls 2 [(0, .ref rd), (1, .int (zI ((k : Nat) : Int)))]) (8 - 0) ⟨0, _, ([]), ⟨by omega, rfl, hi9, rfl, hrd, fun j hj => absurd hj (Nat.not_lt_zero _)⟩, hG, (lv_sub hl [1, 0] rfl)⟩ (fun mz ihA H locs ls hI => ?_)
    obtain ⟨k, lf9, nw, ⟨hk, hmz, hin, hnl, hrk, hch⟩, hG, hl⟩ := hI
    have hsz := rdF_sz (f := rwI f) (i + k)
    rw [hrk] at hsz
    have hnw : ∀ x ∈ nw, 97 ≤ x ∧ x ≤ 122 := hsz.2.2.2.1
    refine lv_iload_n hx hb dX11_line_10 rfl (lv_at hl 1 rfl) ?_
    refine lv_bipush (v := zI 8) hx hb dX11_line_11 (by decide +kernel) ?_
    refine g_cge (tgt := 54) hx hb dX11_line_13 (by decide) (by omega) (fun h1 => ?_) (fun h1 => ?_)
    · have hk1 : 1 ≤ k := by omega
      refine lv_aload_n hx hb dX11_line_54 rfl (lv_at hl 0 rfl) ?_
      refine g_get (ci := 9) hx hb hts in_X11 hown hG (hG.at 0 rfl) rfl 2 (Nat.le_of_ble_eq_true rfl) (hts _ q784) (fun _ h9 => h9) rfl dX11_line_55 ?_
      refine g_new (ci := 11) hx hb hts in_X13 tyX13 tyX13_ok hown (hts _ q858) (hts _ q859) (hts _ q122) hG rfl (fs := [.null]) rfl ⟨by show _ ≤ 4; omega, by show _ ≤ 80; omega⟩ dX11_line_58 (fun ln H (hG : gW X F V ((ln, oB 11 [.null]) :: (rd, oB 9 [.ref ro, .ref le, .ref al, .int (zI ((i + k : Nat) : Int))]) :: (le, aI (gT X 2) 8 lf9) :: (al, oB 25 [.int (zI mo), .ref (ga X 300), .int (zI 0)]) :: Z) s H _) => ?_)
      refine lv_dup hx hb dX11_line_61 rfl ?_
      refine lv_aload_n hx hb dX11_line_62 rfl (lv_at hl 0 rfl) ?_
      refine g_get (ci := 9) hx hb hts in_X11 hown hG (hG.at 1 rfl) rfl 1 (Nat.le_of_ble_eq_true rfl) (hts _ q783) (fun _ h9 => h9) rfl dX11_line_63 ?_
      refine lv_iload_n hx hb dX11_line_66 rfl (lv_at hl 1 rfl) ?_
      have hG : gW X F V ((le, aI (gT X 2) 8 lf9) :: (ln, oB 11 [.null]) :: (rd, oB 9 [.ref ro, .ref le, .ref al, .int (zI ((i + k : Nat) : Int))]) :: (al, oB 25 [.int (zI mo), .ref (ga X 300), .int (zI 0)]) :: Z) s _ _ := hG.pull 2 rfl rfl
      have hG : gW X F V ((ln, oB 11 [.null]) :: (le, aI (gT X 2) 8 lf9) :: (rd, oB 9 [.ref ro, .ref le, .ref al, .int (zI ((i + k : Nat) : Int))]) :: (al, oB 25 [.int (zI mo), .ref (ga X 300), .int (zI 0)]) :: Z) s _ _ := hG.pull 1 rfl rfl
      refine g_cv (va_runI (As := [.ref le, .int (zI ((k : Nat) : Int))]) (rest := [.ref ln, .ref al]) ⟨hx, hb, hml, hown, hts⟩ (metX13_init (n := k) (m9 := 8) (f := lf9) ⟨by omega, by omega⟩ (fun j9 hj9 => by rw [hch j9 hj9]; exact zI_f16 (by have := nw_R hnw (show j9 < nw.length by omega); omega))) (cwI 2 hts (lw_meth q862) rfl rfl rfl (hts _ q122) (hts _ q860) (hts _ q861) rfl (by decide +kernel) ⟨Nat.le_of_ble_eq_true rfl, Nat.le_of_ble_eq_true rfl⟩) (g_preS hG) rfl rfl hl.1 rfl (lv_room (Nat.le_of_ble_eq_true rfl)) dX11_line_67 ⟨by show _ ≤ 4; omega, by show _ ≤ 80; omega⟩) hG (fun F_8 V_9 ws_ H locs hp hG => ?_)
      obtain ⟨rfl, rfl, q9, rfl⟩ := hp
      have hG : gW X F V ((ln, oB 11 [.ref q9]) :: (q9, aI (gT X 2) k (va_cpy lf9 (fun _ => 0) 0 0 k)) :: (le, aI (gT X 2) 8 lf9) :: (rd, oB 9 [.ref ro, .ref le, .ref al, .int (zI ((i + k : Nat) : Int))]) :: (al, oB 25 [.int (zI mo), .ref (ga X 300), .int (zI 0)]) :: Z) s H locs := hG
      have hG : gW X F V ((q9, aI (gT X 2) k (va_cpy lf9 (fun _ => 0) 0 0 k)) :: (ln, oB 11 [.ref q9]) :: (le, aI (gT X 2) 8 lf9) :: (rd, oB 9 [.ref ro, .ref le, .ref al, .int (zI ((i + k : Nat) : Int))]) :: (al, oB 25 [.int (zI mo), .ref (ga X 300), .int (zI 0)]) :: Z) s _ _ := hG.pull 1 rfl rfl
      obtain ⟨G1, hle_G1, hqf, hG⟩ := hG.freeze
      have hG : gW X G1 V ((ln, oB 11 [.ref q9]) :: (le, aI (gT X 2) 8 lf9) :: (rd, oB 9 [.ref ro, .ref le, .ref al, .int (zI ((i + k : Nat) : Int))]) :: (al, oB 25 [.int (zI mo), .ref (ga X 300), .int (zI 0)]) :: Z) s _ _ := hG
      obtain ⟨G2, hle_G2, hln, hG⟩ := hG.freeze
      have hG : gW X G2 V ((le, aI (gT X 2) 8 lf9) :: (rd, oB 9 [.ref ro, .ref le, .ref al, .int (zI ((i + k : Nat) : Int))]) :: (al, oB 25 [.int (zI mo), .ref (ga X 300), .int (zI 0)]) :: Z) s _ _ := hG
      have hline : isLine X G2 ln nw := isLine_mk hln (hle_G2.1 _ _ hqf) hnl.symm hch ⟨by omega, hnw⟩
      have hG : gW X G2 V ((al, oB 25 [.int (zI mo), .ref (ga X 300), .int (zI 0)]) :: (le, aI (gT X 2) 8 lf9) :: (rd, oB 9 [.ref ro, .ref le, .ref al, .int (zI ((i + k : Nat) : Int))]) :: Z) s _ _ := hG.pull 2 rfl rfl
      refine g_Fi (va_runF (C := "java/util/ArrayList") (g_cls hG (ci := 25) rfl) (As := [.ref ln]) (rest := []) ⟨hx, hb, hml, hown, hts⟩ (metJ19_add_z (Or.inl ⟨nw, hline⟩)) (va_cwF 1 hts (lw_F q870 q874 q876 q120 q878) rfl rfl rfl (hG.1.2.1.2.2.1 _ qf0) (by decide +kernel) ⟨Nat.le_of_ble_eq_true rfl, Nat.le_of_ble_eq_true rfl⟩) (g_preV hG (g_recv hG (hG.at 0 rfl) (ci := 25) rfl)) rfl rfl hl.1 rfl (lv_room (Nat.le_of_ble_eq_true rfl)) dX11_line_70 ⟨by show _ ≤ 4; omega, by show _ ≤ 80; omega⟩) hG (fun r_10 F_11 V_12 ws_ H locs hp hG => ?_)
      obtain ⟨rfl, rfl, rfl, es9, cap9, f9, hal9, rfl⟩ := hp
      have hG : gW X G2 V ((al, oB 25 [.int (zI (mo + 1)), .ref es9, .int (zI 1)]) :: (es9, aR (gT X 10) cap9 f9) :: (le, aI (gT X 2) 8 lf9) :: (rd, oB 9 [.ref ro, .ref le, .ref al, .int (zI ((i + k : Nat) : Int))]) :: Z) s H locs := hG
      refine lv_pop hx hb dX11_line_75 rfl ?_
      have hG : gW X G2 V ((es9, aR (gT X 10) cap9 f9) :: (al, oB 25 [.int (zI (mo + 1)), .ref es9, .int (zI 1)]) :: (le, aI (gT X 2) 8 lf9) :: (rd, oB 9 [.ref ro, .ref le, .ref al, .int (zI ((i + k : Nat) : Int))]) :: Z) s _ _ := hG.pull 1 rfl rfl
      have hG : gW X G2 V ((al, oB 25 [.int (zI (mo + 1)), .ref es9, .int (zI 1)]) :: (es9, aR (gT X 10) cap9 f9) :: (le, aI (gT X 2) 8 lf9) :: (rd, oB 9 [.ref ro, .ref le, .ref al, .int (zI ((i + k : Nat) : Int))]) :: Z) s _ _ := hG.pull 1 rfl rfl
      have hG : gW X G2 V ((le, aI (gT X 2) 8 lf9) :: (al, oB 25 [.int (zI (mo + 1)), .ref es9, .int (zI 1)]) :: (es9, aR (gT X 10) cap9 f9) :: (rd, oB 9 [.ref ro, .ref le, .ref al, .int (zI ((i + k : Nat) : Int))]) :: Z) s _ _ := hG.pull 2 rfl rfl
      have hG : gW X G2 V ((rd, oB 9 [.ref ro, .ref le, .ref al, .int (zI ((i + k : Nat) : Int))]) :: (le, aI (gT X 2) 8 lf9) :: (al, oB 25 [.int (zI (mo + 1)), .ref es9, .int (zI 1)]) :: (es9, aR (gT X 10) cap9 f9) :: Z) s _ _ := hG.pull 3 rfl rfl
      refine vx_ret ?_
      exact g_vret hx hb hr hlocks hG (⟨hle_G1.tr hle_G2, rfl, k, nw, lf9, es9, cap9, f9, ln, ⟨hk1, hin, hnl, hk, hrk⟩, Or.inl (by omega), hal9, hline, rfl⟩) ⟨by show _ ≤ 4; omega, by show _ ≤ 80; omega⟩ dX11_line_76
    · refine lv_aload_n hx hb dX11_line_16 rfl (lv_at hl 0 rfl) ?_
      refine g_ci (va_runV (As := []) (rest := []) ⟨hx, hb, hml, hown, hts⟩ (metX11_letter hso hro hVr hfx hn160 (i := i + k) (by omega)) (cwV 0 hts (lw_V q822 q824 qs7 q118 q825) rfl rfl rfl (by decide +kernel) ⟨Nat.le_of_ble_eq_true rfl, Nat.le_of_ble_eq_true rfl⟩) (g_preV hG (g_recv hG (hG.at 0 rfl) (ci := 9) rfl)) rfl rfl hl.1 rfl (lv_room (Nat.le_of_ble_eq_true rfl)) dX11_line_17 ⟨by show _ ≤ 4; omega, by show _ ≤ 80; omega⟩) hG (fun r_13 F_14 V_15 ws_ H locs hp hG => ?_)
      obtain ⟨rfl, rfl, rfl, rfl⟩ := hp
      have hG : gW X F V ((rd, oB 9 [.ref ro, .ref le, .ref al, .int (zI ((i + k : Nat) : Int))]) :: (le, aI (gT X 2) 8 lf9) :: (al, oB 25 [.int (zI mo), .ref (ga X 300), .int (zI 0)]) :: Z) s H locs := hG
      by_cases hl2 : (i + k < n ∧ 97 ≤ rwI f (i + k) ∧ rwI f (i + k) ≤ 122)
      · refine g_topz (y := 1) (by rw [decide_eq_true hl2]; rfl) ?_
        refine g_eq (tgt := 54) hx hb dX11_line_20 (by decide) (by decide) (fun hq => ?_) (fun hq => ?_)
        · exfalso; omega
        · refine lv_aload_n hx hb dX11_line_23 rfl (lv_at hl 0 rfl) ?_
          refine g_get (ci := 9) hx hb hts in_X11 hown hG (hG.at 0 rfl) rfl 1 (Nat.le_of_ble_eq_true rfl) (hts _ q783) (fun _ h9 => h9) rfl dX11_line_24 ?_
          refine lv_iload_n hx hb dX11_line_27 rfl (lv_at hl 1 rfl) ?_
          refine lv_iinc (v := zI (((k : Nat) : Int) + 1 : Int)) (lv' := [(1, .int (zI (((k : Nat) : Int) + 1 : Int))), (0, .ref rd)]) hx hb dX11_line_28 hl (k := 1) rfl ((zI_add _ _).trans (congrArg zI (by omega))) (by decide) rfl (fun ls hl => ?_)
          refine lv_aload_n hx hb dX11_line_31 rfl (lv_at hl 1 rfl) ?_
          refine g_get (ci := 9) hx hb hts in_X11 hown hG (hG.at 0 rfl) rfl 0 (Nat.le_of_ble_eq_true rfl) (hts _ q782) (fun _ h9 => h9) rfl dX11_line_32 ?_
          refine lv_aload_n hx hb dX11_line_35 rfl (lv_at hl 1 rfl) ?_
          refine lv_dup hx hb dX11_line_36 rfl ?_
          refine g_get (ci := 9) hx hb hts in_X11 hown hG (hG.at 0 rfl) rfl 3 (Nat.le_of_ble_eq_true rfl) (hts _ q785) (fun _ h9 => h9) rfl dX11_line_37 ?_
          refine lv_dup_x1 hx hb dX11_line_40 rfl rfl ?_
          refine lv_iconst (v := zI 1) hx hb dX11_line_41 (by decide +kernel) ?_
          refine g_iadd hx hb dX11_line_42 ?_
          refine g_put (ci := 9) hx hb hts in_X11 tyX11 tyX11_ok nmX11 hown hG 0 rfl rfl 3 (Nat.le_of_ble_eq_true rfl) (hts _ q785) (fun _ h9 => h9) rfl (tyX11_ok 3 (Nat.le_of_ble_eq_true rfl)) rfl rfl (Nat.le_of_ble_eq_true rfl) dX11_line_43 (fun H locs (hG : gW X F V ((rd, oB 9 [.ref ro, .ref le, .ref al, .int (zI (((i + k : Nat) : Int) + 1))]) :: (le, aI (gT X 2) 8 lf9) :: (al, oB 25 [.int (zI mo), .ref (ga X 300), .int (zI 0)]) :: Z) s H locs) => ?_)
          refine g_ci (run_row_asInt hso hro hVr (i := (i + k)) (by omega) (hfx (i + k) (by omega)) ⟨hx, hb, hml, hown, hts⟩ q826 hG ⟨Nat.le_of_ble_eq_true rfl, Nat.le_of_ble_eq_true rfl⟩ hl.1 (lv_room (Nat.le_of_ble_eq_true rfl)) dX11_line_46 ⟨by show _ ≤ 4; omega, by show _ ≤ 80; omega⟩) hG (fun r_16 F_17 V_18 ws_ H locs hp hG => ?_)
          obtain ⟨rfl, rfl, rfl, rfl⟩ := hp
          have hG : gW X F V ((rd, oB 9 [.ref ro, .ref le, .ref al, .int (zI (((i + k : Nat) : Int) + 1))]) :: (le, aI (gT X 2) 8 lf9) :: (al, oB 25 [.int (zI mo), .ref (ga X 300), .int (zI 0)]) :: Z) s H locs := hG
          refine lv_topx (zI (rwI f (i + k))) (rwI_z _ _) ?_
          refine lv_i2c (v := zI (rwI f (i + k))) hx hb dX11_line_49 (zI_c16 (by omega)) ?_
          refine g_cast hx hb hG 1 rfl k ⟨rfl, by omega, by omega⟩ (y := (zI (rwI f (i + k)))) (zI_n16 (by omega)) dX11_line_50 (fun H locs (hG : gW X F V ((rd, oB 9 [.ref ro, .ref le, .ref al, .int (zI (((i + k : Nat) : Int) + 1))]) :: (le, aI (gT X 2) 8 (upd lf9 k (zI (rwI f (i + k))))) :: (al, oB 25 [.int (zI mo), .ref (ga X 300), .int (zI 0)]) :: Z) s H locs) => ?_)
          refine lv_goto (tgt := 10) hx hb dX11_line_51 (by decide) ?_
          have hl : lv_has ls 2 [(1, .int (zI ((k + 1 : Nat) : Int))), (0, .ref rd)] := by exact hl
          have hgo := rdF_goes hrk hl2.2 (by omega)
          have hG : gW X F V ((rd, oB 9 [.ref ro, .ref le, .ref al, .int (zI ((i + (k + 1) : Nat) : Int))]) :: (le, aI (gT X 2) 8 (upd lf9 k (zI (rwI f (i + k))))) :: (al, oB 25 [.int (zI mo), .ref (ga X 300), .int (zI 0)]) :: Z) s H locs := hG
          exact ihA (8 - (k + 1)) (by omega) H locs ls ⟨(k + 1), _, (nw ++ [(rwI f (i + k)).toNat]), ⟨by omega, rfl, by omega, by rw [List.length_append, hnl]; rfl, hgo, fun j9 hj9 => by subst hnl; exact getD_app1 hj9 hch (congrArg zI (by omega))⟩, hG, (lv_sub hl [1, 0] rfl)⟩
      · refine g_topz (y := 0) (by rw [decide_eq_false hl2]; rfl) ?_
        refine g_eq (tgt := 54) hx hb dX11_line_20 (by decide) (by decide) (fun hq => ?_) (fun hq => ?_)
        · have hk1 : 1 ≤ k := by rcases Nat.eq_zero_or_pos k with q | q; (subst q; exact absurd hlt hl2); exact q
          refine lv_aload_n hx hb dX11_line_54 rfl (lv_at hl 0 rfl) ?_
          refine g_get (ci := 9) hx hb hts in_X11 hown hG (hG.at 0 rfl) rfl 2 (Nat.le_of_ble_eq_true rfl) (hts _ q784) (fun _ h9 => h9) rfl dX11_line_55 ?_
          refine g_new (ci := 11) hx hb hts in_X13 tyX13 tyX13_ok hown (hts _ q858) (hts _ q859) (hts _ q122) hG rfl (fs := [.null]) rfl ⟨by show _ ≤ 4; omega, by show _ ≤ 80; omega⟩ dX11_line_58 (fun ln H (hG : gW X F V ((ln, oB 11 [.null]) :: (rd, oB 9 [.ref ro, .ref le, .ref al, .int (zI ((i + k : Nat) : Int))]) :: (le, aI (gT X 2) 8 lf9) :: (al, oB 25 [.int (zI mo), .ref (ga X 300), .int (zI 0)]) :: Z) s H _) => ?_)
          refine lv_dup hx hb dX11_line_61 rfl ?_
          refine lv_aload_n hx hb dX11_line_62 rfl (lv_at hl 0 rfl) ?_
          refine g_get (ci := 9) hx hb hts in_X11 hown hG (hG.at 1 rfl) rfl 1 (Nat.le_of_ble_eq_true rfl) (hts _ q783) (fun _ h9 => h9) rfl dX11_line_63 ?_
          refine lv_iload_n hx hb dX11_line_66 rfl (lv_at hl 1 rfl) ?_
          have hG : gW X F V ((le, aI (gT X 2) 8 lf9) :: (ln, oB 11 [.null]) :: (rd, oB 9 [.ref ro, .ref le, .ref al, .int (zI ((i + k : Nat) : Int))]) :: (al, oB 25 [.int (zI mo), .ref (ga X 300), .int (zI 0)]) :: Z) s _ _ := hG.pull 2 rfl rfl
          have hG : gW X F V ((ln, oB 11 [.null]) :: (le, aI (gT X 2) 8 lf9) :: (rd, oB 9 [.ref ro, .ref le, .ref al, .int (zI ((i + k : Nat) : Int))]) :: (al, oB 25 [.int (zI mo), .ref (ga X 300), .int (zI 0)]) :: Z) s _ _ := hG.pull 1 rfl rfl
          refine g_cv (va_runI (As := [.ref le, .int (zI ((k : Nat) : Int))]) (rest := [.ref ln, .ref al]) ⟨hx, hb, hml, hown, hts⟩ (metX13_init (n := k) (m9 := 8) (f := lf9) ⟨by omega, by omega⟩ (fun j9 hj9 => by rw [hch j9 hj9]; exact zI_f16 (by have := nw_R hnw (show j9 < nw.length by omega); omega))) (cwI 2 hts (lw_meth q862) rfl rfl rfl (hts _ q122) (hts _ q860) (hts _ q861) rfl (by decide +kernel) ⟨Nat.le_of_ble_eq_true rfl, Nat.le_of_ble_eq_true rfl⟩) (g_preS hG) rfl rfl hl.1 rfl (lv_room (Nat.le_of_ble_eq_true rfl)) dX11_line_67 ⟨by show _ ≤ 4; omega, by show _ ≤ 80; omega⟩) hG (fun F_20 V_21 ws_ H locs hp hG => ?_)
          obtain ⟨rfl, rfl, q9, rfl⟩ := hp
          have hG : gW X F V ((ln, oB 11 [.ref q9]) :: (q9, aI (gT X 2) k (va_cpy lf9 (fun _ => 0) 0 0 k)) :: (le, aI (gT X 2) 8 lf9) :: (rd, oB 9 [.ref ro, .ref le, .ref al, .int (zI ((i + k : Nat) : Int))]) :: (al, oB 25 [.int (zI mo), .ref (ga X 300), .int (zI 0)]) :: Z) s H locs := hG
          have hG : gW X F V ((q9, aI (gT X 2) k (va_cpy lf9 (fun _ => 0) 0 0 k)) :: (ln, oB 11 [.ref q9]) :: (le, aI (gT X 2) 8 lf9) :: (rd, oB 9 [.ref ro, .ref le, .ref al, .int (zI ((i + k : Nat) : Int))]) :: (al, oB 25 [.int (zI mo), .ref (ga X 300), .int (zI 0)]) :: Z) s _ _ := hG.pull 1 rfl rfl
          obtain ⟨G1, hle_G1, hqf, hG⟩ := hG.freeze
          have hG : gW X G1 V ((ln, oB 11 [.ref q9]) :: (le, aI (gT X 2) 8 lf9) :: (rd, oB 9 [.ref ro, .ref le, .ref al, .int (zI ((i + k : Nat) : Int))]) :: (al, oB 25 [.int (zI mo), .ref (ga X 300), .int (zI 0)]) :: Z) s _ _ := hG
          obtain ⟨G2, hle_G2, hln, hG⟩ := hG.freeze
          have hG : gW X G2 V ((le, aI (gT X 2) 8 lf9) :: (rd, oB 9 [.ref ro, .ref le, .ref al, .int (zI ((i + k : Nat) : Int))]) :: (al, oB 25 [.int (zI mo), .ref (ga X 300), .int (zI 0)]) :: Z) s _ _ := hG
          have hline : isLine X G2 ln nw := isLine_mk hln (hle_G2.1 _ _ hqf) hnl.symm hch ⟨by omega, hnw⟩
          have hG : gW X G2 V ((al, oB 25 [.int (zI mo), .ref (ga X 300), .int (zI 0)]) :: (le, aI (gT X 2) 8 lf9) :: (rd, oB 9 [.ref ro, .ref le, .ref al, .int (zI ((i + k : Nat) : Int))]) :: Z) s _ _ := hG.pull 2 rfl rfl
          refine g_Fi (va_runF (C := "java/util/ArrayList") (g_cls hG (ci := 25) rfl) (As := [.ref ln]) (rest := []) ⟨hx, hb, hml, hown, hts⟩ (metJ19_add_z (Or.inl ⟨nw, hline⟩)) (va_cwF 1 hts (lw_F q870 q874 q876 q120 q878) rfl rfl rfl (hG.1.2.1.2.2.1 _ qf0) (by decide +kernel) ⟨Nat.le_of_ble_eq_true rfl, Nat.le_of_ble_eq_true rfl⟩) (g_preV hG (g_recv hG (hG.at 0 rfl) (ci := 25) rfl)) rfl rfl hl.1 rfl (lv_room (Nat.le_of_ble_eq_true rfl)) dX11_line_70 ⟨by show _ ≤ 4; omega, by show _ ≤ 80; omega⟩) hG (fun r_22 F_23 V_24 ws_ H locs hp hG => ?_)
          obtain ⟨rfl, rfl, rfl, es9, cap9, f9, hal9, rfl⟩ := hp
          have hG : gW X G2 V ((al, oB 25 [.int (zI (mo + 1)), .ref es9, .int (zI 1)]) :: (es9, aR (gT X 10) cap9 f9) :: (le, aI (gT X 2) 8 lf9) :: (rd, oB 9 [.ref ro, .ref le, .ref al, .int (zI ((i + k : Nat) : Int))]) :: Z) s H locs := hG
          refine lv_pop hx hb dX11_line_75 rfl ?_
          have hG : gW X G2 V ((es9, aR (gT X 10) cap9 f9) :: (al, oB 25 [.int (zI (mo + 1)), .ref es9, .int (zI 1)]) :: (le, aI (gT X 2) 8 lf9) :: (rd, oB 9 [.ref ro, .ref le, .ref al, .int (zI ((i + k : Nat) : Int))]) :: Z) s _ _ := hG.pull 1 rfl rfl
          have hG : gW X G2 V ((al, oB 25 [.int (zI (mo + 1)), .ref es9, .int (zI 1)]) :: (es9, aR (gT X 10) cap9 f9) :: (le, aI (gT X 2) 8 lf9) :: (rd, oB 9 [.ref ro, .ref le, .ref al, .int (zI ((i + k : Nat) : Int))]) :: Z) s _ _ := hG.pull 1 rfl rfl
          have hG : gW X G2 V ((le, aI (gT X 2) 8 lf9) :: (al, oB 25 [.int (zI (mo + 1)), .ref es9, .int (zI 1)]) :: (es9, aR (gT X 10) cap9 f9) :: (rd, oB 9 [.ref ro, .ref le, .ref al, .int (zI ((i + k : Nat) : Int))]) :: Z) s _ _ := hG.pull 2 rfl rfl
          have hG : gW X G2 V ((rd, oB 9 [.ref ro, .ref le, .ref al, .int (zI ((i + k : Nat) : Int))]) :: (le, aI (gT X 2) 8 lf9) :: (al, oB 25 [.int (zI (mo + 1)), .ref es9, .int (zI 1)]) :: (es9, aR (gT X 10) cap9 f9) :: Z) s _ _ := hG.pull 3 rfl rfl
          refine vx_ret ?_
          exact g_vret hx hb hr hlocks hG (⟨hle_G1.tr hle_G2, rfl, k, nw, lf9, es9, cap9, f9, ln, ⟨hk1, hin, hnl, hk, hrk⟩, Or.inr hl2, hal9, hline, rfl⟩) ⟨by show _ ≤ 4; omega, by show _ ≤ 80; omega⟩ dX11_line_76
        · exfalso; omega
  · refine g_topz (y := 0) (by rw [decide_eq_false hlt]; rfl) ?_
    refine g_xv (vx_runV (As := [.int (zI 0)]) (rest := []) ⟨hx, hb, hml, hown, hts⟩ (metX11_holds_f (by omega)) (cwV 1 hts (lw_V q835 q837 qs8 q118 q838) rfl rfl rfl (by decide +kernel) ⟨Nat.le_of_ble_eq_true rfl, Nat.le_of_ble_eq_true rfl⟩) (g_preV hG (g_recv hG (hG.at 0 rfl) (ci := 9) rfl)) rfl rfl hl.1 rfl (lv_room (Nat.le_of_ble_eq_true rfl)) dX11_line_5 ⟨by show _ ≤ 4; omega, by show _ ≤ 80; omega⟩) hG (fun E9 ce9 q9 Fx_28 Vx_29 ws_ H locs hpx hG hce => ?_) (fun F_26 V_27 ws_ H locs hp hG => ?_)
    · obtain ⟨rfl, hle_Fx_28, hq9, rfl, rfl⟩ := hpx
      have hG : gW X Fx_28 V ((rd, oB 9 [.ref ro, .ref le, .ref al, .int (zI (i : Int))]) :: (le, aI (gT X 2) 8 lf) :: (al, oB 25 [.int (zI mo), .ref (ga X 300), .int (zI 0)]) :: Z) s H locs := hG
      exact g_out hown hlocks (fun z9 hz9 => (hnt z9 hz9).elim) hG hce (⟨rfl, hle_Fx_28, hq9, hlt, rfl, rfl⟩) ⟨by show _ ≤ 4; omega, by show _ ≤ 80; omega⟩
    exact hp.elim

set_option maxHeartbeats 4000000 in
theorem metX11_line_s {l : Launch} {X : gX} {F : gF} {V : gV} {Z : va_W} {rd le al i : Nat} {mo : Int} {lf : Nat → Int32} {ro ar n so rj : Nat} {f : Nat → Int64} (hso : so ≤ 3) (hro : F.1 ro = some (oB (5 + so) [.ref ar])) (hVr : V rj = some (ar, rwE X so n f)) (hfx : ∀ j, j < n → aTrunc so (f j) = f j) (hn160 : n ≤ 160) {es cap : Nat} {fa : Nat → Option Nat} {L : List Nat} (hal : alR fa cap L) (hel : ∀ y ∈ L, isEl X F y) (hL23 : L.length ≤ 23) {dn : Tx} (hi9 : i ≤ n) (hrd : rdF (rwI f) i = (dn, [], none)) : vx_Met l yX11_line (ws_ yX11_line cX11_line 2 none) ({ frames := 7, cells := 4, slots := 80, locals := 169 }) (gP X F V ((rd, oB 9 [.ref ro, .ref le, .ref al, .int (zI (i : Int))]) :: (le, aI (gT X 2) 8 lf) :: (al, oB 25 [.int (zI mo), .ref es, .int (zI (L.length : Int))]) :: (es, aR (gT X 10) cap fa) :: Z) [.ref rd]) (gQv X (fun G U ws => gLe F G ∧ V = U ∧ ∃ (k : Nat) (nw : List Nat) (lf9 : Nat → Int32) (es9 cap9 : Nat) (f9 : Nat → Option Nat) (ln : Nat), (1 ≤ k ∧ i + k ≤ n ∧ nw.length = k ∧ k ≤ 8 ∧ rdF (rwI f) (i + k) = (dn, nw, none)) ∧ (k = 8 ∨ ¬ (i + k < n ∧ 97 ≤ rwI f (i + k) ∧ rwI f (i + k) ≤ 122)) ∧ alR f9 cap9 (L ++ [ln]) ∧ isLine X G ln nw ∧ ((rd, oB 9 [.ref ro, .ref le, .ref al, .int (zI ((i + k : Nat) : Int))]) :: (le, aI (gT X 2) 8 lf9) :: (al, oB 25 [.int (zI (mo + 1)), .ref es9, .int (zI ((L.length : Int) + 1))]) :: (es9, aR (gT X 10) cap9 f9) :: Z) = ws)) (gXc X (fun E q G U ws => E = "LineRemarks$Faulty" ∧ gLe F G ∧ isFau G q i ∧ ¬ (i < n ∧ 97 ≤ rwI f (i) ∧ rwI f (i) ≤ 122) ∧ V = U ∧ ((rd, oB 9 [.ref ro, .ref le, .ref al, .int (zI (i : Int))]) :: (le, aI (gT X 2) 8 lf) :: (al, oB 25 [.int (zI mo), .ref es, .int (zI (L.length : Int))]) :: (es, aR (gT X 10) cap fa) :: Z) = ws)) 4 80 (gA X) := by
  refine vx_Met.g (by decide) (Nat.le_of_ble_eq_true rfl) ?_
  intro p e s m below meth c ls hx hb hr hts hown hlocks hml hin hnt hG hl
  have hl : lv_has ls 2 [(0, .ref rd)] := hl
  have hsz0 := rdF_sz (f := rwI f) i
  refine lv_aload_n hx hb dX11_line_0 rfl (lv_at hl 0 rfl) ?_
  refine lv_aload_n hx hb dX11_line_1 rfl (lv_at hl 0 rfl) ?_
  refine g_ci (va_runV (As := []) (rest := [.ref rd]) ⟨hx, hb, hml, hown, hts⟩ (metX11_letter hso hro hVr hfx hn160 hi9) (cwV 0 hts (lw_V q822 q824 qs7 q118 q825) rfl rfl rfl (by decide +kernel) ⟨Nat.le_of_ble_eq_true rfl, Nat.le_of_ble_eq_true rfl⟩) (g_preV hG (g_recv hG (hG.at 0 rfl) (ci := 9) rfl)) rfl rfl hl.1 rfl (lv_room (Nat.le_of_ble_eq_true rfl)) dX11_line_2 ⟨by show _ ≤ 4; omega, by show _ ≤ 80; omega⟩) hG (fun r_1 F_2 V_3 ws_ H locs hp hG => ?_)
  obtain ⟨rfl, rfl, rfl, rfl⟩ := hp
  have hG : gW X F V ((rd, oB 9 [.ref ro, .ref le, .ref al, .int (zI (i : Int))]) :: (le, aI (gT X 2) 8 lf) :: (al, oB 25 [.int (zI mo), .ref es, .int (zI (L.length : Int))]) :: (es, aR (gT X 10) cap fa) :: Z) s H locs := hG
  by_cases hlt : (i < n ∧ 97 ≤ rwI f (i) ∧ rwI f (i) ≤ 122)
  · refine g_topz (y := 1) (by rw [decide_eq_true hlt]; rfl) ?_
    refine g_cv (va_runV (As := [.int (zI 1)]) (rest := []) ⟨hx, hb, hml, hown, hts⟩ (metX11_holds_t (b := 1) (by decide)) (cwV 1 hts (lw_V q835 q837 qs8 q118 q838) rfl rfl rfl (by decide +kernel) ⟨Nat.le_of_ble_eq_true rfl, Nat.le_of_ble_eq_true rfl⟩) (g_preV hG (g_recv hG (hG.at 0 rfl) (ci := 9) rfl)) rfl rfl hl.1 rfl (lv_room (Nat.le_of_ble_eq_true rfl)) dX11_line_5 ⟨by show _ ≤ 4; omega, by show _ ≤ 80; omega⟩) hG (fun F_5 V_6 ws_ H locs hp hG => ?_)
    obtain ⟨rfl, rfl, rfl⟩ := hp
    have hG : gW X F V ((rd, oB 9 [.ref ro, .ref le, .ref al, .int (zI (i : Int))]) :: (le, aI (gT X 2) 8 lf) :: (al, oB 25 [.int (zI mo), .ref es, .int (zI (L.length : Int))]) :: (es, aR (gT X 10) cap fa) :: Z) s H locs := hG
    refine lv_iconst (v := zI 0) hx hb dX11_line_8 (by decide +kernel) ?_
    refine lv_istore_n (lv' := [(1, .int (zI 0)), (0, .ref rd)]) hx hb dX11_line_9 rfl hl (by decide) rfl (fun ls hl => ?_)
    have hl : lv_has ls 2 [(1, .int (zI ((0 : Nat) : Int))), (0, .ref rd)] := by exact hl
    have hG : gW X F V ((rd, oB 9 [.ref ro, .ref le, .ref al, .int (zI ((i + 0 : Nat) : Int))]) :: (le, aI (gT X 2) 8 lf) :: (al, oB 25 [.int (zI mo), .ref es, .int (zI (L.length : Int))]) :: (es, aR (gT X 10) cap fa) :: Z) s H locs := hG
    refine g_loop (fun mz H locs ls => ∃ (k : Nat) (lf9 : Nat → Int32) (nw : List Nat), (k ≤ 8 ∧ mz = 8 - k ∧ i + k ≤ n ∧ nw.length = k ∧ rdF (rwI f) (i + k) = (dn, nw, none) ∧ ∀ j, j < k → lf9 j = zI (nw.getD j 0 : Nat)) ∧ gW X F V ((rd, oB 9 [.ref ro, .ref le, .ref al, .int (zI ((i + k : Nat) : Int))]) :: (le, aI (gT X 2) 8 lf9) :: (al, oB 25 [.int (zI mo), .ref es, .int (zI (L.length : Int))]) :: (es, aR (gT X 10) cap fa) :: Z) s H locs ∧ lv_has ls 2 [(0, .ref rd), (1, .int (zI ((k : Nat) : Int)))]) (8 - 0) ⟨0, _, ([]), ⟨by omega, rfl, hi9, rfl, hrd, fun j hj => absurd hj (Nat.not_lt_zero _)⟩, hG, (lv_sub hl [1, 0] rfl)⟩ (fun mz ihA H locs ls hI => ?_)
    obtain ⟨k, lf9, nw, ⟨hk, hmz, hin, hnl, hrk, hch⟩, hG, hl⟩ := hI
    have hsz := rdF_sz (f := rwI f) (i + k)
    rw [hrk] at hsz
    have hnw : ∀ x ∈ nw, 97 ≤ x ∧ x ≤ 122 := hsz.2.2.2.1
    refine lv_iload_n hx hb dX11_line_10 rfl (lv_at hl 1 rfl) ?_
    refine lv_bipush (v := zI 8) hx hb dX11_line_11 (by decide +kernel) ?_
    refine g_cge (tgt := 54) hx hb dX11_line_13 (by decide) (by omega) (fun h1 => ?_) (fun h1 => ?_)
    · have hk1 : 1 ≤ k := by omega
      refine lv_aload_n hx hb dX11_line_54 rfl (lv_at hl 0 rfl) ?_
      refine g_get (ci := 9) hx hb hts in_X11 hown hG (hG.at 0 rfl) rfl 2 (Nat.le_of_ble_eq_true rfl) (hts _ q784) (fun _ h9 => h9) rfl dX11_line_55 ?_
      refine g_new (ci := 11) hx hb hts in_X13 tyX13 tyX13_ok hown (hts _ q858) (hts _ q859) (hts _ q122) hG rfl (fs := [.null]) rfl ⟨by show _ ≤ 4; omega, by show _ ≤ 80; omega⟩ dX11_line_58 (fun ln H (hG : gW X F V ((ln, oB 11 [.null]) :: (rd, oB 9 [.ref ro, .ref le, .ref al, .int (zI ((i + k : Nat) : Int))]) :: (le, aI (gT X 2) 8 lf9) :: (al, oB 25 [.int (zI mo), .ref es, .int (zI (L.length : Int))]) :: (es, aR (gT X 10) cap fa) :: Z) s H _) => ?_)
      refine lv_dup hx hb dX11_line_61 rfl ?_
      refine lv_aload_n hx hb dX11_line_62 rfl (lv_at hl 0 rfl) ?_
      refine g_get (ci := 9) hx hb hts in_X11 hown hG (hG.at 1 rfl) rfl 1 (Nat.le_of_ble_eq_true rfl) (hts _ q783) (fun _ h9 => h9) rfl dX11_line_63 ?_
      refine lv_iload_n hx hb dX11_line_66 rfl (lv_at hl 1 rfl) ?_
      have hG : gW X F V ((le, aI (gT X 2) 8 lf9) :: (ln, oB 11 [.null]) :: (rd, oB 9 [.ref ro, .ref le, .ref al, .int (zI ((i + k : Nat) : Int))]) :: (al, oB 25 [.int (zI mo), .ref es, .int (zI (L.length : Int))]) :: (es, aR (gT X 10) cap fa) :: Z) s _ _ := hG.pull 2 rfl rfl
      have hG : gW X F V ((ln, oB 11 [.null]) :: (le, aI (gT X 2) 8 lf9) :: (rd, oB 9 [.ref ro, .ref le, .ref al, .int (zI ((i + k : Nat) : Int))]) :: (al, oB 25 [.int (zI mo), .ref es, .int (zI (L.length : Int))]) :: (es, aR (gT X 10) cap fa) :: Z) s _ _ := hG.pull 1 rfl rfl
      refine g_cv (va_runI (As := [.ref le, .int (zI ((k : Nat) : Int))]) (rest := [.ref ln, .ref al]) ⟨hx, hb, hml, hown, hts⟩ (metX13_init (n := k) (m9 := 8) (f := lf9) ⟨by omega, by omega⟩ (fun j9 hj9 => by rw [hch j9 hj9]; exact zI_f16 (by have := nw_R hnw (show j9 < nw.length by omega); omega))) (cwI 2 hts (lw_meth q862) rfl rfl rfl (hts _ q122) (hts _ q860) (hts _ q861) rfl (by decide +kernel) ⟨Nat.le_of_ble_eq_true rfl, Nat.le_of_ble_eq_true rfl⟩) (g_preS hG) rfl rfl hl.1 rfl (lv_room (Nat.le_of_ble_eq_true rfl)) dX11_line_67 ⟨by show _ ≤ 4; omega, by show _ ≤ 80; omega⟩) hG (fun F_8 V_9 ws_ H locs hp hG => ?_)
      obtain ⟨rfl, rfl, q9, rfl⟩ := hp
      have hG : gW X F V ((ln, oB 11 [.ref q9]) :: (q9, aI (gT X 2) k (va_cpy lf9 (fun _ => 0) 0 0 k)) :: (le, aI (gT X 2) 8 lf9) :: (rd, oB 9 [.ref ro, .ref le, .ref al, .int (zI ((i + k : Nat) : Int))]) :: (al, oB 25 [.int (zI mo), .ref es, .int (zI (L.length : Int))]) :: (es, aR (gT X 10) cap fa) :: Z) s H locs := hG
      have hG : gW X F V ((q9, aI (gT X 2) k (va_cpy lf9 (fun _ => 0) 0 0 k)) :: (ln, oB 11 [.ref q9]) :: (le, aI (gT X 2) 8 lf9) :: (rd, oB 9 [.ref ro, .ref le, .ref al, .int (zI ((i + k : Nat) : Int))]) :: (al, oB 25 [.int (zI mo), .ref es, .int (zI (L.length : Int))]) :: (es, aR (gT X 10) cap fa) :: Z) s _ _ := hG.pull 1 rfl rfl
      obtain ⟨G1, hle_G1, hqf, hG⟩ := hG.freeze
      have hG : gW X G1 V ((ln, oB 11 [.ref q9]) :: (le, aI (gT X 2) 8 lf9) :: (rd, oB 9 [.ref ro, .ref le, .ref al, .int (zI ((i + k : Nat) : Int))]) :: (al, oB 25 [.int (zI mo), .ref es, .int (zI (L.length : Int))]) :: (es, aR (gT X 10) cap fa) :: Z) s _ _ := hG
      obtain ⟨G2, hle_G2, hln, hG⟩ := hG.freeze
      have hG : gW X G2 V ((le, aI (gT X 2) 8 lf9) :: (rd, oB 9 [.ref ro, .ref le, .ref al, .int (zI ((i + k : Nat) : Int))]) :: (al, oB 25 [.int (zI mo), .ref es, .int (zI (L.length : Int))]) :: (es, aR (gT X 10) cap fa) :: Z) s _ _ := hG
      have hline : isLine X G2 ln nw := isLine_mk hln (hle_G2.1 _ _ hqf) hnl.symm hch ⟨by omega, hnw⟩
      have hG : gW X G2 V ((es, aR (gT X 10) cap fa) :: (le, aI (gT X 2) 8 lf9) :: (rd, oB 9 [.ref ro, .ref le, .ref al, .int (zI ((i + k : Nat) : Int))]) :: (al, oB 25 [.int (zI mo), .ref es, .int (zI (L.length : Int))]) :: Z) s _ _ := hG.pull 3 rfl rfl
      have hG : gW X G2 V ((al, oB 25 [.int (zI mo), .ref es, .int (zI (L.length : Int))]) :: (es, aR (gT X 10) cap fa) :: (le, aI (gT X 2) 8 lf9) :: (rd, oB 9 [.ref ro, .ref le, .ref al, .int (zI ((i + k : Nat) : Int))]) :: Z) s _ _ := hG.pull 3 rfl rfl
      refine g_Fi (va_runF (C := "java/util/ArrayList") (g_cls hG (ci := 25) rfl) (As := [.ref ln]) (rest := []) ⟨hx, hb, hml, hown, hts⟩ (metJ19_add_s hal (fun y9 h9 => (hel y9 h9).mono (hle_G1.tr hle_G2)) (Or.inl ⟨nw, hline⟩) hL23) (va_cwF 1 hts (lw_F q870 q874 q876 q120 q878) rfl rfl rfl (hG.1.2.1.2.2.1 _ qf0) (by decide +kernel) ⟨Nat.le_of_ble_eq_true rfl, Nat.le_of_ble_eq_true rfl⟩) (g_preV hG (g_recv hG (hG.at 0 rfl) (ci := 25) rfl)) rfl rfl hl.1 rfl (lv_room (Nat.le_of_ble_eq_true rfl)) dX11_line_70 ⟨by show _ ≤ 4; omega, by show _ ≤ 80; omega⟩) hG (fun r_10 F_11 V_12 ws_ H locs hp hG => ?_)
      obtain ⟨rfl, rfl, rfl, es9, cap9, f9, hal9, rfl⟩ := hp
      have hG : gW X G2 V ((al, oB 25 [.int (zI (mo + 1)), .ref es9, .int (zI ((L.length : Int) + 1))]) :: (es9, aR (gT X 10) cap9 f9) :: (le, aI (gT X 2) 8 lf9) :: (rd, oB 9 [.ref ro, .ref le, .ref al, .int (zI ((i + k : Nat) : Int))]) :: Z) s H locs := hG
      refine lv_pop hx hb dX11_line_75 rfl ?_
      have hG : gW X G2 V ((es9, aR (gT X 10) cap9 f9) :: (al, oB 25 [.int (zI (mo + 1)), .ref es9, .int (zI ((L.length : Int) + 1))]) :: (le, aI (gT X 2) 8 lf9) :: (rd, oB 9 [.ref ro, .ref le, .ref al, .int (zI ((i + k : Nat) : Int))]) :: Z) s _ _ := hG.pull 1 rfl rfl
      have hG : gW X G2 V ((al, oB 25 [.int (zI (mo + 1)), .ref es9, .int (zI ((L.length : Int) + 1))]) :: (es9, aR (gT X 10) cap9 f9) :: (le, aI (gT X 2) 8 lf9) :: (rd, oB 9 [.ref ro, .ref le, .ref al, .int (zI ((i + k : Nat) : Int))]) :: Z) s _ _ := hG.pull 1 rfl rfl
      have hG : gW X G2 V ((le, aI (gT X 2) 8 lf9) :: (al, oB 25 [.int (zI (mo + 1)), .ref es9, .int (zI ((L.length : Int) + 1))]) :: (es9, aR (gT X 10) cap9 f9) :: (rd, oB 9 [.ref ro, .ref le, .ref al, .int (zI ((i + k : Nat) : Int))]) :: Z) s _ _ := hG.pull 2 rfl rfl
      have hG : gW X G2 V ((rd, oB 9 [.ref ro, .ref le, .ref al, .int (zI ((i + k : Nat) : Int))]) :: (le, aI (gT X 2) 8 lf9) :: (al, oB 25 [.int (zI (mo + 1)), .ref es9, .int (zI ((L.length : Int) + 1))]) :: (es9, aR (gT X 10) cap9 f9) :: Z) s _ _ := hG.pull 3 rfl rfl
      refine vx_ret ?_
      exact g_vret hx hb hr hlocks hG (⟨hle_G1.tr hle_G2, rfl, k, nw, lf9, es9, cap9, f9, ln, ⟨hk1, hin, hnl, hk, hrk⟩, Or.inl (by omega), hal9, hline, rfl⟩) ⟨by show _ ≤ 4; omega, by show _ ≤ 80; omega⟩ dX11_line_76
    · refine lv_aload_n hx hb dX11_line_16 rfl (lv_at hl 0 rfl) ?_
      refine g_ci (va_runV (As := []) (rest := []) ⟨hx, hb, hml, hown, hts⟩ (metX11_letter hso hro hVr hfx hn160 (i := i + k) (by omega)) (cwV 0 hts (lw_V q822 q824 qs7 q118 q825) rfl rfl rfl (by decide +kernel) ⟨Nat.le_of_ble_eq_true rfl, Nat.le_of_ble_eq_true rfl⟩) (g_preV hG (g_recv hG (hG.at 0 rfl) (ci := 9) rfl)) rfl rfl hl.1 rfl (lv_room (Nat.le_of_ble_eq_true rfl)) dX11_line_17 ⟨by show _ ≤ 4; omega, by show _ ≤ 80; omega⟩) hG (fun r_13 F_14 V_15 ws_ H locs hp hG => ?_)
      obtain ⟨rfl, rfl, rfl, rfl⟩ := hp
      have hG : gW X F V ((rd, oB 9 [.ref ro, .ref le, .ref al, .int (zI ((i + k : Nat) : Int))]) :: (le, aI (gT X 2) 8 lf9) :: (al, oB 25 [.int (zI mo), .ref es, .int (zI (L.length : Int))]) :: (es, aR (gT X 10) cap fa) :: Z) s H locs := hG
      by_cases hl2 : (i + k < n ∧ 97 ≤ rwI f (i + k) ∧ rwI f (i + k) ≤ 122)
      · refine g_topz (y := 1) (by rw [decide_eq_true hl2]; rfl) ?_
        refine g_eq (tgt := 54) hx hb dX11_line_20 (by decide) (by decide) (fun hq => ?_) (fun hq => ?_)
        · exfalso; omega
        · refine lv_aload_n hx hb dX11_line_23 rfl (lv_at hl 0 rfl) ?_
          refine g_get (ci := 9) hx hb hts in_X11 hown hG (hG.at 0 rfl) rfl 1 (Nat.le_of_ble_eq_true rfl) (hts _ q783) (fun _ h9 => h9) rfl dX11_line_24 ?_
          refine lv_iload_n hx hb dX11_line_27 rfl (lv_at hl 1 rfl) ?_
          refine lv_iinc (v := zI (((k : Nat) : Int) + 1 : Int)) (lv' := [(1, .int (zI (((k : Nat) : Int) + 1 : Int))), (0, .ref rd)]) hx hb dX11_line_28 hl (k := 1) rfl ((zI_add _ _).trans (congrArg zI (by omega))) (by decide) rfl (fun ls hl => ?_)
          refine lv_aload_n hx hb dX11_line_31 rfl (lv_at hl 1 rfl) ?_
          refine g_get (ci := 9) hx hb hts in_X11 hown hG (hG.at 0 rfl) rfl 0 (Nat.le_of_ble_eq_true rfl) (hts _ q782) (fun _ h9 => h9) rfl dX11_line_32 ?_
          refine lv_aload_n hx hb dX11_line_35 rfl (lv_at hl 1 rfl) ?_
          refine lv_dup hx hb dX11_line_36 rfl ?_
          refine g_get (ci := 9) hx hb hts in_X11 hown hG (hG.at 0 rfl) rfl 3 (Nat.le_of_ble_eq_true rfl) (hts _ q785) (fun _ h9 => h9) rfl dX11_line_37 ?_
          refine lv_dup_x1 hx hb dX11_line_40 rfl rfl ?_
          refine lv_iconst (v := zI 1) hx hb dX11_line_41 (by decide +kernel) ?_
          refine g_iadd hx hb dX11_line_42 ?_
          refine g_put (ci := 9) hx hb hts in_X11 tyX11 tyX11_ok nmX11 hown hG 0 rfl rfl 3 (Nat.le_of_ble_eq_true rfl) (hts _ q785) (fun _ h9 => h9) rfl (tyX11_ok 3 (Nat.le_of_ble_eq_true rfl)) rfl rfl (Nat.le_of_ble_eq_true rfl) dX11_line_43 (fun H locs (hG : gW X F V ((rd, oB 9 [.ref ro, .ref le, .ref al, .int (zI (((i + k : Nat) : Int) + 1))]) :: (le, aI (gT X 2) 8 lf9) :: (al, oB 25 [.int (zI mo), .ref es, .int (zI (L.length : Int))]) :: (es, aR (gT X 10) cap fa) :: Z) s H locs) => ?_)
          refine g_ci (run_row_asInt hso hro hVr (i := (i + k)) (by omega) (hfx (i + k) (by omega)) ⟨hx, hb, hml, hown, hts⟩ q826 hG ⟨Nat.le_of_ble_eq_true rfl, Nat.le_of_ble_eq_true rfl⟩ hl.1 (lv_room (Nat.le_of_ble_eq_true rfl)) dX11_line_46 ⟨by show _ ≤ 4; omega, by show _ ≤ 80; omega⟩) hG (fun r_16 F_17 V_18 ws_ H locs hp hG => ?_)
          obtain ⟨rfl, rfl, rfl, rfl⟩ := hp
          have hG : gW X F V ((rd, oB 9 [.ref ro, .ref le, .ref al, .int (zI (((i + k : Nat) : Int) + 1))]) :: (le, aI (gT X 2) 8 lf9) :: (al, oB 25 [.int (zI mo), .ref es, .int (zI (L.length : Int))]) :: (es, aR (gT X 10) cap fa) :: Z) s H locs := hG
          refine lv_topx (zI (rwI f (i + k))) (rwI_z _ _) ?_
          refine lv_i2c (v := zI (rwI f (i + k))) hx hb dX11_line_49 (zI_c16 (by omega)) ?_
          refine g_cast hx hb hG 1 rfl k ⟨rfl, by omega, by omega⟩ (y := (zI (rwI f (i + k)))) (zI_n16 (by omega)) dX11_line_50 (fun H locs (hG : gW X F V ((rd, oB 9 [.ref ro, .ref le, .ref al, .int (zI (((i + k : Nat) : Int) + 1))]) :: (le, aI (gT X 2) 8 (upd lf9 k (zI (rwI f (i + k))))) :: (al, oB 25 [.int (zI mo), .ref es, .int (zI (L.length : Int))]) :: (es, aR (gT X 10) cap fa) :: Z) s H locs) => ?_)
          refine lv_goto (tgt := 10) hx hb dX11_line_51 (by decide) ?_
          have hl : lv_has ls 2 [(1, .int (zI ((k + 1 : Nat) : Int))), (0, .ref rd)] := by exact hl
          have hgo := rdF_goes hrk hl2.2 (by omega)
          have hG : gW X F V ((rd, oB 9 [.ref ro, .ref le, .ref al, .int (zI ((i + (k + 1) : Nat) : Int))]) :: (le, aI (gT X 2) 8 (upd lf9 k (zI (rwI f (i + k))))) :: (al, oB 25 [.int (zI mo), .ref es, .int (zI (L.length : Int))]) :: (es, aR (gT X 10) cap fa) :: Z) s H locs := hG
          exact ihA (8 - (k + 1)) (by omega) H locs ls ⟨(k + 1), _, (nw ++ [(rwI f (i + k)).toNat]), ⟨by omega, rfl, by omega, by rw [List.length_append, hnl]; rfl, hgo, fun j9 hj9 => by subst hnl; exact getD_app1 hj9 hch (congrArg zI (by omega))⟩, hG, (lv_sub hl [1, 0] rfl)⟩
      · refine g_topz (y := 0) (by rw [decide_eq_false hl2]; rfl) ?_
        refine g_eq (tgt := 54) hx hb dX11_line_20 (by decide) (by decide) (fun hq => ?_) (fun hq => ?_)
        · have hk1 : 1 ≤ k := by rcases Nat.eq_zero_or_pos k with q | q; (subst q; exact absurd hlt hl2); exact q
          refine lv_aload_n hx hb dX11_line_54 rfl (lv_at hl 0 rfl) ?_
          refine g_get (ci := 9) hx hb hts in_X11 hown hG (hG.at 0 rfl) rfl 2 (Nat.le_of_ble_eq_true rfl) (hts _ q784) (fun _ h9 => h9) rfl dX11_line_55 ?_
          refine g_new (ci := 11) hx hb hts in_X13 tyX13 tyX13_ok hown (hts _ q858) (hts _ q859) (hts _ q122) hG rfl (fs := [.null]) rfl ⟨by show _ ≤ 4; omega, by show _ ≤ 80; omega⟩ dX11_line_58 (fun ln H (hG : gW X F V ((ln, oB 11 [.null]) :: (rd, oB 9 [.ref ro, .ref le, .ref al, .int (zI ((i + k : Nat) : Int))]) :: (le, aI (gT X 2) 8 lf9) :: (al, oB 25 [.int (zI mo), .ref es, .int (zI (L.length : Int))]) :: (es, aR (gT X 10) cap fa) :: Z) s H _) => ?_)
          refine lv_dup hx hb dX11_line_61 rfl ?_
          refine lv_aload_n hx hb dX11_line_62 rfl (lv_at hl 0 rfl) ?_
          refine g_get (ci := 9) hx hb hts in_X11 hown hG (hG.at 1 rfl) rfl 1 (Nat.le_of_ble_eq_true rfl) (hts _ q783) (fun _ h9 => h9) rfl dX11_line_63 ?_
          refine lv_iload_n hx hb dX11_line_66 rfl (lv_at hl 1 rfl) ?_
          have hG : gW X F V ((le, aI (gT X 2) 8 lf9) :: (ln, oB 11 [.null]) :: (rd, oB 9 [.ref ro, .ref le, .ref al, .int (zI ((i + k : Nat) : Int))]) :: (al, oB 25 [.int (zI mo), .ref es, .int (zI (L.length : Int))]) :: (es, aR (gT X 10) cap fa) :: Z) s _ _ := hG.pull 2 rfl rfl
          have hG : gW X F V ((ln, oB 11 [.null]) :: (le, aI (gT X 2) 8 lf9) :: (rd, oB 9 [.ref ro, .ref le, .ref al, .int (zI ((i + k : Nat) : Int))]) :: (al, oB 25 [.int (zI mo), .ref es, .int (zI (L.length : Int))]) :: (es, aR (gT X 10) cap fa) :: Z) s _ _ := hG.pull 1 rfl rfl
          refine g_cv (va_runI (As := [.ref le, .int (zI ((k : Nat) : Int))]) (rest := [.ref ln, .ref al]) ⟨hx, hb, hml, hown, hts⟩ (metX13_init (n := k) (m9 := 8) (f := lf9) ⟨by omega, by omega⟩ (fun j9 hj9 => by rw [hch j9 hj9]; exact zI_f16 (by have := nw_R hnw (show j9 < nw.length by omega); omega))) (cwI 2 hts (lw_meth q862) rfl rfl rfl (hts _ q122) (hts _ q860) (hts _ q861) rfl (by decide +kernel) ⟨Nat.le_of_ble_eq_true rfl, Nat.le_of_ble_eq_true rfl⟩) (g_preS hG) rfl rfl hl.1 rfl (lv_room (Nat.le_of_ble_eq_true rfl)) dX11_line_67 ⟨by show _ ≤ 4; omega, by show _ ≤ 80; omega⟩) hG (fun F_20 V_21 ws_ H locs hp hG => ?_)
          obtain ⟨rfl, rfl, q9, rfl⟩ := hp
          have hG : gW X F V ((ln, oB 11 [.ref q9]) :: (q9, aI (gT X 2) k (va_cpy lf9 (fun _ => 0) 0 0 k)) :: (le, aI (gT X 2) 8 lf9) :: (rd, oB 9 [.ref ro, .ref le, .ref al, .int (zI ((i + k : Nat) : Int))]) :: (al, oB 25 [.int (zI mo), .ref es, .int (zI (L.length : Int))]) :: (es, aR (gT X 10) cap fa) :: Z) s H locs := hG
          have hG : gW X F V ((q9, aI (gT X 2) k (va_cpy lf9 (fun _ => 0) 0 0 k)) :: (ln, oB 11 [.ref q9]) :: (le, aI (gT X 2) 8 lf9) :: (rd, oB 9 [.ref ro, .ref le, .ref al, .int (zI ((i + k : Nat) : Int))]) :: (al, oB 25 [.int (zI mo), .ref es, .int (zI (L.length : Int))]) :: (es, aR (gT X 10) cap fa) :: Z) s _ _ := hG.pull 1 rfl rfl
          obtain ⟨G1, hle_G1, hqf, hG⟩ := hG.freeze
          have hG : gW X G1 V ((ln, oB 11 [.ref q9]) :: (le, aI (gT X 2) 8 lf9) :: (rd, oB 9 [.ref ro, .ref le, .ref al, .int (zI ((i + k : Nat) : Int))]) :: (al, oB 25 [.int (zI mo), .ref es, .int (zI (L.length : Int))]) :: (es, aR (gT X 10) cap fa) :: Z) s _ _ := hG
          obtain ⟨G2, hle_G2, hln, hG⟩ := hG.freeze
          have hG : gW X G2 V ((le, aI (gT X 2) 8 lf9) :: (rd, oB 9 [.ref ro, .ref le, .ref al, .int (zI ((i + k : Nat) : Int))]) :: (al, oB 25 [.int (zI mo), .ref es, .int (zI (L.length : Int))]) :: (es, aR (gT X 10) cap fa) :: Z) s _ _ := hG
          have hline : isLine X G2 ln nw := isLine_mk hln (hle_G2.1 _ _ hqf) hnl.symm hch ⟨by omega, hnw⟩
          have hG : gW X G2 V ((es, aR (gT X 10) cap fa) :: (le, aI (gT X 2) 8 lf9) :: (rd, oB 9 [.ref ro, .ref le, .ref al, .int (zI ((i + k : Nat) : Int))]) :: (al, oB 25 [.int (zI mo), .ref es, .int (zI (L.length : Int))]) :: Z) s _ _ := hG.pull 3 rfl rfl
          have hG : gW X G2 V ((al, oB 25 [.int (zI mo), .ref es, .int (zI (L.length : Int))]) :: (es, aR (gT X 10) cap fa) :: (le, aI (gT X 2) 8 lf9) :: (rd, oB 9 [.ref ro, .ref le, .ref al, .int (zI ((i + k : Nat) : Int))]) :: Z) s _ _ := hG.pull 3 rfl rfl
          refine g_Fi (va_runF (C := "java/util/ArrayList") (g_cls hG (ci := 25) rfl) (As := [.ref ln]) (rest := []) ⟨hx, hb, hml, hown, hts⟩ (metJ19_add_s hal (fun y9 h9 => (hel y9 h9).mono (hle_G1.tr hle_G2)) (Or.inl ⟨nw, hline⟩) hL23) (va_cwF 1 hts (lw_F q870 q874 q876 q120 q878) rfl rfl rfl (hG.1.2.1.2.2.1 _ qf0) (by decide +kernel) ⟨Nat.le_of_ble_eq_true rfl, Nat.le_of_ble_eq_true rfl⟩) (g_preV hG (g_recv hG (hG.at 0 rfl) (ci := 25) rfl)) rfl rfl hl.1 rfl (lv_room (Nat.le_of_ble_eq_true rfl)) dX11_line_70 ⟨by show _ ≤ 4; omega, by show _ ≤ 80; omega⟩) hG (fun r_22 F_23 V_24 ws_ H locs hp hG => ?_)
          obtain ⟨rfl, rfl, rfl, es9, cap9, f9, hal9, rfl⟩ := hp
          have hG : gW X G2 V ((al, oB 25 [.int (zI (mo + 1)), .ref es9, .int (zI ((L.length : Int) + 1))]) :: (es9, aR (gT X 10) cap9 f9) :: (le, aI (gT X 2) 8 lf9) :: (rd, oB 9 [.ref ro, .ref le, .ref al, .int (zI ((i + k : Nat) : Int))]) :: Z) s H locs := hG
          refine lv_pop hx hb dX11_line_75 rfl ?_
          have hG : gW X G2 V ((es9, aR (gT X 10) cap9 f9) :: (al, oB 25 [.int (zI (mo + 1)), .ref es9, .int (zI ((L.length : Int) + 1))]) :: (le, aI (gT X 2) 8 lf9) :: (rd, oB 9 [.ref ro, .ref le, .ref al, .int (zI ((i + k : Nat) : Int))]) :: Z) s _ _ := hG.pull 1 rfl rfl
          have hG : gW X G2 V ((al, oB 25 [.int (zI (mo + 1)), .ref es9, .int (zI ((L.length : Int) + 1))]) :: (es9, aR (gT X 10) cap9 f9) :: (le, aI (gT X 2) 8 lf9) :: (rd, oB 9 [.ref ro, .ref le, .ref al, .int (zI ((i + k : Nat) : Int))]) :: Z) s _ _ := hG.pull 1 rfl rfl
          have hG : gW X G2 V ((le, aI (gT X 2) 8 lf9) :: (al, oB 25 [.int (zI (mo + 1)), .ref es9, .int (zI ((L.length : Int) + 1))]) :: (es9, aR (gT X 10) cap9 f9) :: (rd, oB 9 [.ref ro, .ref le, .ref al, .int (zI ((i + k : Nat) : Int))]) :: Z) s _ _ := hG.pull 2 rfl rfl
          have hG : gW X G2 V ((rd, oB 9 [.ref ro, .ref le, .ref al, .int (zI ((i + k : Nat) : Int))]) :: (le, aI (gT X 2) 8 lf9) :: (al, oB 25 [.int (zI (mo + 1)), .ref es9, .int (zI ((L.length : Int) + 1))]) :: (es9, aR (gT X 10) cap9 f9) :: Z) s _ _ := hG.pull 3 rfl rfl
          refine vx_ret ?_
          exact g_vret hx hb hr hlocks hG (⟨hle_G1.tr hle_G2, rfl, k, nw, lf9, es9, cap9, f9, ln, ⟨hk1, hin, hnl, hk, hrk⟩, Or.inr hl2, hal9, hline, rfl⟩) ⟨by show _ ≤ 4; omega, by show _ ≤ 80; omega⟩ dX11_line_76
        · exfalso; omega
  · refine g_topz (y := 0) (by rw [decide_eq_false hlt]; rfl) ?_
    refine g_xv (vx_runV (As := [.int (zI 0)]) (rest := []) ⟨hx, hb, hml, hown, hts⟩ (metX11_holds_f (by omega)) (cwV 1 hts (lw_V q835 q837 qs8 q118 q838) rfl rfl rfl (by decide +kernel) ⟨Nat.le_of_ble_eq_true rfl, Nat.le_of_ble_eq_true rfl⟩) (g_preV hG (g_recv hG (hG.at 0 rfl) (ci := 9) rfl)) rfl rfl hl.1 rfl (lv_room (Nat.le_of_ble_eq_true rfl)) dX11_line_5 ⟨by show _ ≤ 4; omega, by show _ ≤ 80; omega⟩) hG (fun E9 ce9 q9 Fx_28 Vx_29 ws_ H locs hpx hG hce => ?_) (fun F_26 V_27 ws_ H locs hp hG => ?_)
    · obtain ⟨rfl, hle_Fx_28, hq9, rfl, rfl⟩ := hpx
      have hG : gW X Fx_28 V ((rd, oB 9 [.ref ro, .ref le, .ref al, .int (zI (i : Int))]) :: (le, aI (gT X 2) 8 lf) :: (al, oB 25 [.int (zI mo), .ref es, .int (zI (L.length : Int))]) :: (es, aR (gT X 10) cap fa) :: Z) s H locs := hG
      exact g_out hown hlocks (fun z9 hz9 => (hnt z9 hz9).elim) hG hce (⟨rfl, hle_Fx_28, hq9, hlt, rfl, rfl⟩) ⟨by show _ ≤ 4; omega, by show _ ≤ 80; omega⟩
    exact hp.elim

