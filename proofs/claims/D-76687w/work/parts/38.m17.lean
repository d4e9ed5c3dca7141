set_option maxRecDepth 100000
theorem cnB_S {p : Nat → Bool} {n : Nat} : cnB p (n + 1) = cnB p n + (if p n = true then 1 else 0) := rfl
theorem bsS_S {f : Nat → Nat} {n b : Nat} (h : bsS f n = some b) : bsS f (n + 1) = if f b < f n then some n else some b := by rw [bsS, h]
set_option maxHeartbeats 4000000 in
theorem metX4_heat {l : Launch} {X : gX} {mo : Nat} {ad : Nat → Nat} {S : mS} {w : aW} {y : Nat} (hO : mO S w) (hK : wOK w) (hy9 : y < wN w) : Met l yX4_heat (ws_ yX4_heat cX4_heat 4 (some FieldType.int)) ({ frames := 6, cells := 0, slots := 0, locals := 144 }) (mP X mo ad S [.ref mo, .int (zI (y : Int))]) (mQi X mo ad (fun u T => u = zI (aHeat w y) ∧ mReal S T)) 0 0 (mA mo ad) := by
  refine Met.m (by decide) (Nat.le_of_ble_eq_true rfl) ?_
  intro p e s m below meth c ls hx hb hr hts hown hlocks hml hG hl
  have hl : lv_has ls 4 [(0, .ref mo), (1, .int (zI (y : Int)))] := hl
  have hNN := hK.n
  have hMM := hK.m
  refine lv_iconst (v := zI 0) hx hb dX4_heat_0 (by decide +kernel) ?_
  refine lv_istore_n (lv' := [(2, .int (zI 0)), (0, .ref mo), (1, .int (zI (y : Int)))]) hx hb dX4_heat_1 rfl hl (by decide) rfl (fun ls hl => ?_)
  refine g_loop (fun mz H locs ls => ∃ (k : Nat) (T : mS), (k ≤ 24 ∧ mz = 24 - k ∧ mReal S T ∧ ∀ i, i < k → T.2.1 26 i = 0) ∧ mW X mo ad T s H locs ∧ lv_has ls 4 [(0, .ref mo), (1, .int (zI (y : Int))), (2, .int (zI (k : Int)))]) (24 - 0) ⟨0, S, ⟨by omega, rfl, mReal.rf, fun i hi => by omega⟩, hG, (lv_sub hl [1, 2, 0] rfl)⟩ (fun mz ihA H locs ls hI => ?_)
  obtain ⟨k, T, ⟨hk, hmz, hre, hpl⟩, hG, hl⟩ := hI
  refine lv_iload_n hx hb dX4_heat_2 rfl (lv_at hl 2 rfl) ?_
  refine lv_bipush (v := zI 24) hx hb dX4_heat_3 (by decide +kernel) ?_
  refine g_cge (tgt := 21) hx hb dX4_heat_5 (by decide) (by omega) (fun h1 => ?_) (fun h1 => ?_)
  · refine lv_iconst (v := zI 0) hx hb dX4_heat_21 (by decide +kernel) ?_
    refine lv_istore_n (lv' := [(2, .int (zI 0)), (0, .ref mo), (1, .int (zI (y : Int)))]) hx hb dX4_heat_22 rfl hl (by decide) rfl (fun ls hl => ?_)
    refine g_loop (fun mz H locs ls => ∃ (x : Nat) (T : mS), (x ≤ wM w ∧ mz = wM w - x ∧ mReal S T ∧ ∀ i, i < 24 → T.2.1 26 i = (cnB (fun m => inPut (wPut w y m) i) x : Nat)) ∧ mW X mo ad T s H locs ∧ lv_has ls 4 [(0, .ref mo), (1, .int (zI (y : Int))), (2, .int (zI (x : Int)))]) (wM w - 0) ⟨0, T, ⟨Nat.zero_le _, rfl, hre, fun i hi => hpl i (by omega)⟩, hG, (lv_sub hl [1, 2, 0] rfl)⟩ (fun mz ihB H locs ls hI => ?_)
    obtain ⟨x, T, ⟨hx9, hmz, hre, hpl⟩, hG, hl⟩ := hI
    refine lv_iload_n hx hb dX4_heat_23 rfl (lv_at hl 2 rfl) ?_
    refine lv_aload_n hx hb dX4_heat_24 rfl (lv_at hl 0 rfl) ?_
    refine m_get 5 (by decide) (v := .int (zI (wM w : Int))) (congrArg (fun z => Value.int (zI z)) (show T.1 5 = (wM w : Int) from (hO.real hre).m)) hx hb hts hown hG (hts _ q3301) dX4_heat_25 ?_
    refine g_cge (tgt := 75) hx hb dX4_heat_28 (by decide) (by omega) (fun h2 => ?_) (fun h2 => ?_)
    · have hxM : x = wM w := by omega
      have hpl : ∀ i, i < 24 → T.2.1 26 i = (hcN w y i : Nat) := fun i hi => by rw [hpl i hi, hxM]; rfl
      have hcl : ∀ i, hcN w y i ≤ 16 := fun i => Nat.le_trans (cnB_le _ _) hMM
      refine lv_iconst (v := zI 0) hx hb dX4_heat_75 (by decide +kernel) ?_
      refine lv_istore_n (lv' := [(2, .int (zI 0)), (0, .ref mo), (1, .int (zI (y : Int)))]) hx hb dX4_heat_76 rfl hl (by decide) rfl (fun ls hl => ?_)
      refine lv_iconst (v := zI 1) hx hb dX4_heat_77 (by decide +kernel) ?_
      refine lv_istore_n (lv' := [(3, .int (zI 1)), (2, .int (zI 0)), (0, .ref mo), (1, .int (zI (y : Int)))]) hx hb dX4_heat_78 rfl hl (by decide) rfl (fun ls hl => ?_)
      have hl : lv_has ls 4 [(3, .int (zI ((1 : Nat) : Int))), (2, .int (zI ((0 : Nat) : Int))), (0, .ref mo), (1, .int (zI (y : Int)))] := by exact hl
      refine g_loop (fun mz H locs ls => ∃ (i f : Nat), (1 ≤ i ∧ i ≤ 24 ∧ f < 24 ∧ mz = 24 - i ∧ bsS (hcN w y) i = some f) ∧ mW X mo ad T s H locs ∧ lv_has ls 4 [(0, .ref mo), (1, .int (zI (y : Int))), (2, .int (zI (f : Int))), (3, .int (zI (i : Int)))]) (24 - 1) ⟨1, 0, ⟨by omega, by omega, by omega, rfl, rfl⟩, hG, (lv_sub hl [2, 3, 1, 0] rfl)⟩ (fun mz ihC H locs ls hI => ?_)
      obtain ⟨i, f, ⟨hi1, hi2, hf, hmz, hbs⟩, hG, hl⟩ := hI
      have hf1 := hcl i
      have hf2 := hcl f
      refine lv_iload_n hx hb dX4_heat_79 rfl (lv_at hl 3 rfl) ?_
      refine lv_bipush (v := zI 24) hx hb dX4_heat_80 (by decide +kernel) ?_
      refine g_cge (tgt := 108) hx hb dX4_heat_82 (by decide) (by omega) (fun h7 => ?_) (fun h7 => ?_)
      · have hi24 : i = 24 := by omega
        subst hi24
        have hl : lv_has ls 4 [(0, .ref mo), (1, .int (zI (y : Int))), (2, .int (zI (f : Int))), (3, .int (zI ((24 : Nat) : Int)))] := by exact hl
        refine lv_aload_n hx hb dX4_heat_108 rfl (lv_at hl 0 rfl) ?_
        refine m_get 26 (by decide) (v := .ref (ad 26)) rfl hx hb hts hown hG (hts _ q3322) dX4_heat_109 ?_
        refine lv_iload_n hx hb dX4_heat_112 rfl (lv_at hl 2 rfl) ?_
        refine m_iald 26 rfl rfl (by decide) f (v := (hcN w y f : Int)) ⟨by omega, by show _ < 24; omega⟩ (show T.2.1 26 f = (hcN w y f : Int) from (hpl f (by omega))) hx hb hG dX4_heat_113 ?_
        refine g_ne (tgt := 122) hx hb dX4_heat_114 (by decide) (by omega) (fun h9 => ?_) (fun h9 => ?_)
        · refine lv_iload_n hx hb dX4_heat_122 rfl (lv_at hl 2 rfl) ?_
          exact m_iret hx hb hr hlocks hG (⟨by show _ = zI (match bsS (hcN w y) 24 with | none => 0 | some b => if hcN w y b = 0 then 99 else (b : Nat)); rw [hbs]; dsimp only; rw [if_neg (by omega)], hre⟩) ⟨Nat.le_of_ble_eq_true rfl, Nat.le_of_ble_eq_true rfl⟩ dX4_heat_123
        · refine lv_bipush (v := zI 99) hx hb dX4_heat_117 (by decide +kernel) ?_
          refine lv_goto (tgt := 123) hx hb dX4_heat_119 (by decide) ?_
          exact m_iret hx hb hr hlocks hG (⟨by show _ = zI (match bsS (hcN w y) 24 with | none => 0 | some b => if hcN w y b = 0 then 99 else (b : Nat)); rw [hbs]; dsimp only; rw [if_pos (by omega)], hre⟩) ⟨Nat.le_of_ble_eq_true rfl, Nat.le_of_ble_eq_true rfl⟩ dX4_heat_123
      · refine lv_aload_n hx hb dX4_heat_85 rfl (lv_at hl 0 rfl) ?_
        refine m_get 26 (by decide) (v := .ref (ad 26)) rfl hx hb hts hown hG (hts _ q3322) dX4_heat_86 ?_
        refine lv_iload_n hx hb dX4_heat_89 rfl (lv_at hl 3 rfl) ?_
        refine m_iald 26 rfl rfl (by decide) i (v := (hcN w y i : Int)) ⟨by omega, by show _ < 24; omega⟩ (show T.2.1 26 i = (hcN w y i : Int) from (hpl i (by omega))) hx hb hG dX4_heat_90 ?_
        refine lv_aload_n hx hb dX4_heat_91 rfl (lv_at hl 0 rfl) ?_
        refine m_get 26 (by decide) (v := .ref (ad 26)) rfl hx hb hts hown hG (hts _ q3322) dX4_heat_92 ?_
        refine lv_iload_n hx hb dX4_heat_95 rfl (lv_at hl 2 rfl) ?_
        refine m_iald 26 rfl rfl (by decide) f (v := (hcN w y f : Int)) ⟨by omega, by show _ < 24; omega⟩ (show T.2.1 26 f = (hcN w y f : Int) from (hpl f (by omega))) hx hb hG dX4_heat_96 ?_
        refine g_cle (tgt := 102) hx hb dX4_heat_97 (by decide) (by omega) (fun h8 => ?_) (fun h8 => ?_)
        · refine lv_iinc (v := zI ((i : Int) + 1 : Int)) (lv' := [(3, .int (zI ((i : Int) + 1 : Int))), (0, .ref mo), (1, .int (zI (y : Int))), (2, .int (zI (f : Int)))]) hx hb dX4_heat_102 hl (k := 3) rfl ((zI_add _ _).trans (congrArg zI (by omega))) (by decide) rfl (fun ls hl => ?_)
          have hl : lv_has ls 4 [(3, .int (zI ((i + 1 : Nat) : Int))), (0, .ref mo), (1, .int (zI (y : Int))), (2, .int (zI (f : Int)))] := by exact hl
          refine lv_goto (tgt := 79) hx hb dX4_heat_105 (by decide) ?_
          exact ihC (24 - (i + 1)) (by omega) H locs ls ⟨(i + 1), f, ⟨by omega, by omega, by omega, rfl, by rw [bsS_S hbs, if_neg (by omega)]⟩, hG, (lv_sub hl [1, 2, 3, 0] rfl)⟩
        · refine lv_iload_n hx hb dX4_heat_100 rfl (lv_at hl 3 rfl) ?_
          refine lv_istore_n (lv' := [(2, .int (zI (i : Int))), (0, .ref mo), (1, .int (zI (y : Int))), (3, .int (zI (i : Int)))]) hx hb dX4_heat_101 rfl hl (by decide) rfl (fun ls hl => ?_)
          refine lv_iinc (v := zI ((i : Int) + 1 : Int)) (lv' := [(3, .int (zI ((i : Int) + 1 : Int))), (2, .int (zI (i : Int))), (0, .ref mo), (1, .int (zI (y : Int)))]) hx hb dX4_heat_102 hl (k := 3) rfl ((zI_add _ _).trans (congrArg zI (by omega))) (by decide) rfl (fun ls hl => ?_)
          have hl : lv_has ls 4 [(3, .int (zI ((i + 1 : Nat) : Int))), (2, .int (zI (i : Int))), (0, .ref mo), (1, .int (zI (y : Int)))] := by exact hl
          refine lv_goto (tgt := 79) hx hb dX4_heat_105 (by decide) ?_
          exact ihC (24 - (i + 1)) (by omega) H locs ls ⟨(i + 1), i, ⟨by omega, by omega, by omega, rfl, by rw [bsS_S hbs, if_pos (by omega)]⟩, hG, (lv_sub hl [2, 3, 1, 0] rfl)⟩
    · refine lv_aload_n hx hb dX4_heat_31 rfl (lv_at hl 0 rfl) ?_
      refine lv_iload_n hx hb dX4_heat_32 rfl (lv_at hl 2 rfl) ?_
      refine lv_iload_n hx hb dX4_heat_33 rfl (lv_at hl 1 rfl) ?_
      refine m_ci (va_runV (As := [.int (zI (x : Int)), .int (zI (y : Int))]) (rest := []) ⟨hx, hb, hml, hown, hts⟩ (metX4_isPut (x := x) (y := y) (hO.real hre) hK (by omega) (by omega)) (cwV 2 hts (lw_V q3660 q3662 qs75 q102 q3663) rfl rfl rfl (by decide +kernel) ⟨Nat.le_of_ble_eq_true rfl, Nat.le_of_ble_eq_true rfl⟩) (m_preV hG) rfl rfl hl.1 rfl (lv_room (Nat.le_of_ble_eq_true rfl)) dX4_heat_34 ⟨Nat.le_of_ble_eq_true rfl, Nat.le_of_ble_eq_true rfl⟩) hG (fun r_1 S_2 H locs hp hG => ?_)
      obtain ⟨b1, rfl, hb1, hre1, hpl1⟩ := hp
      have hG : mW X mo ad S_2 s H locs := hG
      have hre2 := hre.tr hre1
      have hpl2 : ∀ i, i < 24 → S_2.2.1 26 i = (cnB (fun m => inPut (wPut w y m) i) x : Nat) := fun i hi => (congrFun (hpl1 26 (by decide)) i).trans (hpl i hi)
      rcases hb1 with ⟨rfl, pq, hpw, hp1, hp2, hp3, hp4⟩ | ⟨rfl, hpw⟩
      · refine g_eq (tgt := 69) hx hb dX4_heat_37 (by decide) (by decide) (fun h3 => ?_) (fun h3 => ?_)
        · exfalso; omega
        · refine lv_aload_n hx hb dX4_heat_40 rfl (lv_at hl 0 rfl) ?_
          refine m_get 31 (by decide) (v := .int (zI (pq.1 : Int))) (congrArg (fun z => Value.int (zI z)) (show S_2.1 31 = (pq.1 : Int) from hp1)) hx hb hts hown hG (hts _ q3327) dX4_heat_41 ?_
          refine lv_istore_n (lv' := [(3, .int (zI (pq.1 : Int))), (0, .ref mo), (1, .int (zI (y : Int))), (2, .int (zI (x : Int)))]) hx hb dX4_heat_44 rfl hl (by decide) rfl (fun ls hl => ?_)
          refine g_loop (fun mz H locs ls => ∃ (j : Nat) (T : mS), (pq.1 ≤ j ∧ j ≤ pq.2 + 1 ∧ mz = 24 - j ∧ mReal S T ∧ T.1 32 = (pq.2 : Nat) ∧ ∀ i, i < 24 → T.2.1 26 i = (cnB (fun m => inPut (wPut w y m) i) x + (if pq.1 ≤ i ∧ i < j then 1 else 0) : Nat)) ∧ mW X mo ad T s H locs ∧ lv_has ls 4 [(0, .ref mo), (1, .int (zI (y : Int))), (2, .int (zI (x : Int))), (3, .int (zI (j : Int)))]) (24 - pq.1) ⟨pq.1, S_2, ⟨by omega, by omega, rfl, hre2, hp2, fun i hi => by rw [hpl2 i hi, if_neg (by omega)]; rfl⟩, hG, (lv_sub hl [1, 2, 3, 0] rfl)⟩ (fun mz ihD H locs ls hI => ?_)
          obtain ⟨j, T, ⟨hj, hj2, hmz2, hre3, hp2, hpl3⟩, hG, hl⟩ := hI
          refine lv_iload_n hx hb dX4_heat_45 rfl (lv_at hl 3 rfl) ?_
          refine lv_aload_n hx hb dX4_heat_46 rfl (lv_at hl 0 rfl) ?_
          refine m_get 32 (by decide) (v := .int (zI (pq.2 : Int))) (congrArg (fun z => Value.int (zI z)) (show T.1 32 = (pq.2 : Int) from hp2)) hx hb hts hown hG (hts _ q3328) dX4_heat_47 ?_
          refine g_cgt (tgt := 69) hx hb dX4_heat_50 (by decide) (by omega) (fun h4 => ?_) (fun h4 => ?_)
          · refine lv_iinc (v := zI ((x : Int) + 1 : Int)) (lv' := [(2, .int (zI ((x : Int) + 1 : Int))), (0, .ref mo), (1, .int (zI (y : Int))), (3, .int (zI (j : Int)))]) hx hb dX4_heat_69 hl (k := 2) rfl ((zI_add _ _).trans (congrArg zI (by omega))) (by decide) rfl (fun ls hl => ?_)
            have hl : lv_has ls 4 [(2, .int (zI ((x + 1 : Nat) : Int))), (0, .ref mo), (1, .int (zI (y : Int))), (3, .int (zI (j : Int)))] := by exact hl
            refine lv_goto (tgt := 23) hx hb dX4_heat_72 (by decide) ?_
            exact ihB (wM w - (x + 1)) (by omega) H locs ls ⟨(x + 1), T, ⟨by omega, rfl, hre3, fun i hi => by rw [hpl3 i hi, cnB_S]; show ((_ + (if pq.1 ≤ i ∧ i < j then 1 else 0) : Nat) : Int) = ((_ + (if inPut (wPut w y x) i = true then 1 else 0) : Nat) : Int); rw [hpw]; show _ = ((_ + (if decide (pq.1 ≤ i ∧ i ≤ pq.2) = true then 1 else 0) : Nat) : Int); by_cases hq : pq.1 ≤ i ∧ i < j; (rw [if_pos hq, if_pos (by rw [decide_eq_true_iff]; omega)]); rw [if_neg hq, if_neg (by rw [decide_eq_true_iff]; omega)]⟩, hG, (lv_sub hl [1, 2, 0] rfl)⟩
          · refine lv_aload_n hx hb dX4_heat_53 rfl (lv_at hl 0 rfl) ?_
            refine m_get 26 (by decide) (v := .ref (ad 26)) rfl hx hb hts hown hG (hts _ q3322) dX4_heat_54 ?_
            refine lv_iload_n hx hb dX4_heat_57 rfl (lv_at hl 3 rfl) ?_
            refine lv_dup2_11 hx hb dX4_heat_58 rfl rfl ?_
            refine m_iald 26 rfl rfl (by decide) j (v := T.2.1 26 j) ⟨by omega, by show _ < 24; omega⟩ rfl hx hb hG dX4_heat_59 ?_
            refine lv_iconst (v := zI 1) hx hb dX4_heat_60 (by decide +kernel) ?_
            refine g_iadd hx hb dX4_heat_61 ?_
            refine m_iast 26 rfl rfl (by decide) j ⟨by omega, by show _ < 24; omega⟩ hx hb hG dX4_heat_62 (fun H locs (hG : mW X mo ad (sA T 26 j (T.2.1 26 j + 1)) s H locs) => ?_)
            refine lv_iinc (v := zI ((j : Int) + 1 : Int)) (lv' := [(3, .int (zI ((j : Int) + 1 : Int))), (0, .ref mo), (1, .int (zI (y : Int))), (2, .int (zI (x : Int)))]) hx hb dX4_heat_63 hl (k := 3) rfl ((zI_add _ _).trans (congrArg zI (by omega))) (by decide) rfl (fun ls hl => ?_)
            have hl : lv_has ls 4 [(3, .int (zI ((j + 1 : Nat) : Int))), (0, .ref mo), (1, .int (zI (y : Int))), (2, .int (zI (x : Int)))] := by exact hl
            refine lv_goto (tgt := 45) hx hb dX4_heat_66 (by decide) ?_
            exact ihD (24 - (j + 1)) (by omega) H locs ls ⟨(j + 1), (sA T 26 j (T.2.1 26 j + 1)), ⟨by omega, by omega, rfl, hre3.A (by decide) _ _, hp2, fun i hi => by by_cases hij : i = j; (subst hij; rw [sA_s, hpl3 i hi, if_neg (by omega), if_pos (by omega)]; rfl); rw [sA_n hij, hpl3 i hi]; by_cases hq : pq.1 ≤ i ∧ i < j; (rw [if_pos hq, if_pos (by omega)]); rw [if_neg hq, if_neg (by omega)]⟩, hG, (lv_sub hl [1, 2, 3, 0] rfl)⟩
      · refine g_eq (tgt := 69) hx hb dX4_heat_37 (by decide) (by decide) (fun h3 => ?_) (fun h3 => ?_)
        · refine lv_iinc (v := zI ((x : Int) + 1 : Int)) (lv' := [(2, .int (zI ((x : Int) + 1 : Int))), (0, .ref mo), (1, .int (zI (y : Int)))]) hx hb dX4_heat_69 hl (k := 2) rfl ((zI_add _ _).trans (congrArg zI (by omega))) (by decide) rfl (fun ls hl => ?_)
          have hl : lv_has ls 4 [(2, .int (zI ((x + 1 : Nat) : Int))), (0, .ref mo), (1, .int (zI (y : Int)))] := by exact hl
          refine lv_goto (tgt := 23) hx hb dX4_heat_72 (by decide) ?_
          exact ihB (wM w - (x + 1)) (by omega) H locs ls ⟨(x + 1), S_2, ⟨by omega, rfl, hre2, fun i hi => by rw [hpl2 i hi, cnB_S, if_neg (by show ¬ inPut (wPut w y x) i = true; rw [hpw]; exact nofun)]; rfl⟩, hG, (lv_sub hl [1, 2, 0] rfl)⟩
        · exfalso; omega
  · refine lv_aload_n hx hb dX4_heat_8 rfl (lv_at hl 0 rfl) ?_
    refine m_get 26 (by decide) (v := .ref (ad 26)) rfl hx hb hts hown hG (hts _ q3322) dX4_heat_9 ?_
    refine lv_iload_n hx hb dX4_heat_12 rfl (lv_at hl 2 rfl) ?_
    refine lv_iconst (v := zI 0) hx hb dX4_heat_13 (by decide +kernel) ?_
    refine m_iast 26 rfl rfl (by decide) k ⟨by omega, by show _ < 24; omega⟩ hx hb hG dX4_heat_14 (fun H locs (hG : mW X mo ad (sA T 26 k 0) s H locs) => ?_)
    refine lv_iinc (v := zI ((k : Int) + 1 : Int)) (lv' := [(2, .int (zI ((k : Int) + 1 : Int))), (0, .ref mo), (1, .int (zI (y : Int)))]) hx hb dX4_heat_15 hl (k := 2) rfl ((zI_add _ _).trans (congrArg zI (by omega))) (by decide) rfl (fun ls hl => ?_)
    refine lv_goto (tgt := 2) hx hb dX4_heat_18 (by decide) ?_
    exact ihA (24 - (k + 1)) (by omega) H locs ls ⟨(k + 1), (sA T 26 k 0), ⟨by omega, rfl, hre.A (by decide) _ _, fun i hi => by by_cases hik : i = k; (subst hik; exact sA_s); exact (sA_n hik).trans (hpl i (by omega))⟩, hG, (lv_sub hl [1, 2, 0] rfl)⟩

set_option maxHeartbeats 4000000 in
theorem metX4_who {l : Launch} {X : gX} {mo : Nat} {ad : Nat → Nat} {S : mS} {a : aS} (hX : mX S a) (hA : aOK a) {y what : Int} (hr0 : -2147483648 ≤ y ∧ y < 2147483648 ∧ -2147483648 ≤ what ∧ what < 2147483648) : Met l yX4_who (ws_ yX4_who cX4_who 5 (some FieldType.int)) ({ frames := 7, cells := 0, slots := 0, locals := 167 }) (mP X mo ad S [.ref mo, .int (zI y), .int (zI what)]) (mQi X mo ad (fun u T => u = (opWho a y what).1 ∧ mX T (opWho a y what).2)) 0 0 (mA mo ad) := by
  refine Met.m (by decide) (Nat.le_of_ble_eq_true rfl) ?_
  intro p e s m below meth c ls hx hb hr hts hown hlocks hml hG hl
  have hl : lv_has ls 5 [(0, .ref mo), (1, .int (zI y)), (2, .int (zI what))] := hl
  have hNN := hA.w.n
  have hMM := hA.w.m
  refine lv_aload_n hx hb dX4_who_0 rfl (lv_at hl 0 rfl) ?_
  refine lv_iload_n hx hb dX4_who_1 rfl (lv_at hl 1 rfl) ?_
  have hq1 := hX.o.n
  have hQ1 := hA.w.n
  refine m_ci (va_runV (As := [.int (zI y)]) (rest := []) ⟨hx, hb, hml, hown, hts⟩ (metX4_isRevision (by omega) (by omega)) (cwV 1 hts (lw_V q3481 q3483 qs48 q102 q3484) rfl rfl rfl (by decide +kernel) ⟨Nat.le_of_ble_eq_true rfl, Nat.le_of_ble_eq_true rfl⟩) (m_preV hG) rfl rfl hl.1 rfl (lv_room (Nat.le_of_ble_eq_true rfl)) dX4_who_2 ⟨Nat.le_of_ble_eq_true rfl, Nat.le_of_ble_eq_true rfl⟩) hG (fun r_1 S_2 H locs hp hG => ?_)
  obtain ⟨b1, rfl, hb1, rfl⟩ := hp
  have hG : mW X mo ad S s H locs := hG
  refine g_ne (tgt := 14) hx hb dX4_who_5 (by decide) (by omega) (fun h2 => ?_) (fun h2 => ?_)
  · refine lv_iload_n hx hb dX4_who_14 rfl (lv_at hl 2 rfl) ?_
    refine lv_iconst (v := zI 0) hx hb dX4_who_15 (by decide +kernel) ?_
    refine lv_iconst (v := zI 2) hx hb dX4_who_16 (by decide +kernel) ?_
    refine m_ci (va_runS (As := [.int (zI what), .int (zI 0), .int (zI 2)]) (rest := []) ⟨hx, hb, hml, hown, hts⟩ (metX4_within (by omega)) (va_cwS 3 hts (lw_S q3424 q3425 q102 q3426) rfl rfl rfl (by decide +kernel) ⟨Nat.le_of_ble_eq_true rfl, Nat.le_of_ble_eq_true rfl⟩) (m_preS hG) rfl rfl hl.1 rfl (lv_room (Nat.le_of_ble_eq_true rfl)) dX4_who_17 ⟨Nat.le_of_ble_eq_true rfl, Nat.le_of_ble_eq_true rfl⟩) hG (fun r_3 S_4 H locs hp hG => ?_)
    obtain ⟨bw3, rfl, hbw3, rfl⟩ := hp
    have hG : mW X mo ad S s H locs := hG
    refine g_ne (tgt := 30) hx hb dX4_who_20 (by decide) (by omega) (fun h4 => ?_) (fun h4 => ?_)
    · obtain ⟨y1, rfl⟩ : ∃ n9 : Nat, y = n9 := ⟨y.toNat, by omega⟩
      refine lv_iload_n hx hb dX4_who_30 rfl (lv_at hl 2 rfl) ?_
      refine lv_iconst (v := zI 2) hx hb dX4_who_31 (by decide +kernel) ?_
      refine g_cne (tgt := 41) hx hb dX4_who_32 (by decide) (by omega) (fun h1 => ?_) (fun h1 => ?_)
      · refine lv_iconst (v := zI 0) hx hb dX4_who_41 (by decide +kernel) ?_
        refine lv_istore_n (lv' := [(3, .int (zI 0)), (0, .ref mo), (1, .int (zI (y1 : Int))), (2, .int (zI what))]) hx hb dX4_who_42 rfl hl (by decide) rfl (fun ls hl => ?_)
        refine lv_iconst (v := zI 0) hx hb dX4_who_43 (by decide +kernel) ?_
        refine lv_istore (lv' := [(4, .int (zI 0)), (3, .int (zI 0)), (0, .ref mo), (1, .int (zI (y1 : Int))), (2, .int (zI what))]) hx hb dX4_who_44 hl (by decide) rfl (fun ls hl => ?_)
        have hl : lv_has ls 5 [(4, .int (zI 0)), (3, .int (btI (whoB (aWd a) y1 what) 0)), (0, .ref mo), (1, .int (zI (y1 : Int))), (2, .int (zI what))] := by exact hl
        refine g_loop (fun mz H locs ls => ∃ (x : Nat) (T : mS), (x ≤ wM (aWd a) ∧ mz = wM (aWd a) - x ∧ mReal S T) ∧ mW X mo ad T s H locs ∧ lv_has ls 5 [(0, .ref mo), (1, .int (zI (y1 : Int))), (2, .int (zI what)), (3, .int (btI (whoB (aWd a) y1 what) x)), (4, .int (zI (x : Int)))]) (wM (aWd a) - 0) ⟨0, S, ⟨by omega, rfl, mReal.rf⟩, hG, (lv_sub hl [2, 3, 4, 1, 0] rfl)⟩ (fun mz ihA H locs ls hI => ?_)
        obtain ⟨x, T, ⟨hx9, hmz, hre⟩, hG, hl⟩ := hI
        refine lv_iload hx hb dX4_who_46 (lv_at hl 4 rfl) ?_
        refine lv_aload_n hx hb dX4_who_48 rfl (lv_at hl 0 rfl) ?_
        refine m_get 5 (by decide) (v := .int (zI (wM (aWd a) : Int))) (congrArg (fun z => Value.int (zI z)) (show T.1 5 = (wM (aWd a) : Int) from (hX.real hre).o.m)) hx hb hts hown hG (hts _ q3301) dX4_who_49 ?_
        refine g_cge (tgt := 112) hx hb dX4_who_52 (by decide) (by omega) (fun h2 => ?_) (fun h2 => ?_)
        · refine lv_iload_n hx hb dX4_who_112 rfl (lv_at hl 3 rfl) ?_
          exact m_iret hx hb hr hlocks hG (mX.castB (by unfold opWho; rw [if_neg (by omega), if_neg (by omega), if_neg (by omega), show wM (aWd a) = x by omega]; rfl) (hX.real hre)) ⟨Nat.le_of_ble_eq_true rfl, Nat.le_of_ble_eq_true rfl⟩ dX4_who_113
        · refine lv_aload_n hx hb dX4_who_55 rfl (lv_at hl 0 rfl) ?_
          refine lv_iload hx hb dX4_who_56 (lv_at hl 4 rfl) ?_
          refine lv_aload_n hx hb dX4_who_58 rfl (lv_at hl 0 rfl) ?_
          refine lv_iconst (v := zI 0) hx hb dX4_who_59 (by decide +kernel) ?_
          refine lv_iload hx hb dX4_who_60 (lv_at hl 4 rfl) ?_
          refine m_ci (va_runV (As := [.int (zI 0), .int (zI (x : Int))]) (rest := [.int (zI (x : Int)), .ref mo]) ⟨hx, hb, hml, hown, hts⟩ (metX4_of 0 (m0 := x) (by omega)) (cwV 2 hts (lw_V q3467 q3469 qs47 q102 q3470) rfl rfl rfl (by decide +kernel) ⟨Nat.le_of_ble_eq_true rfl, Nat.le_of_ble_eq_true rfl⟩) (m_preV hG) rfl rfl hl.1 rfl (lv_room (Nat.le_of_ble_eq_true rfl)) dX4_who_62 ⟨Nat.le_of_ble_eq_true rfl, Nat.le_of_ble_eq_true rfl⟩) hG (fun r_5 S_6 H locs hp hG => ?_)
          obtain ⟨rfl, rfl⟩ := hp
          have hG : mW X mo ad T s H locs := hG
          refine g_topz (y := (rKind (wRk (aWd a) x) : Int)) ((congrArg (T.2.1 6) (by omega : 16 * 0 + x = x)).trans ((hX.real hre).o.kd (m := x) (by omega))) ?_
          have hv5 := hA.w.rk (m := x) (by omega)
          refine lv_iload_n hx hb dX4_who_65 rfl (lv_at hl 1 rfl) ?_
          refine lv_iconst (v := zI 0) hx hb dX4_who_66 (by decide +kernel) ?_
          refine m_ci (va_runV (As := [.int (zI (x : Int)), .int (zI (rKind (wRk (aWd a) x) : Int)), .int (zI (y1 : Int)), .int (zI 0)]) (rest := []) ⟨hx, hb, hml, hown, hts⟩ (metX4_puts (x := x) (kd := (rKind (wRk (aWd a) x))) (t := y1) (le := 0) (hX.real hre).o hA.w (by omega) (by omega) (by omega) (fun _ _ => Nat.zero_le _)) (cwV 4 hts (lw_V q3611 q3613 qs67 q102 q3614) rfl rfl rfl (by decide +kernel) ⟨Nat.le_of_ble_eq_true rfl, Nat.le_of_ble_eq_true rfl⟩) (m_preV hG) rfl rfl hl.1 rfl (lv_room (Nat.le_of_ble_eq_true rfl)) dX4_who_67 ⟨Nat.le_of_ble_eq_true rfl, Nat.le_of_ble_eq_true rfl⟩) hG (fun r_7 S_8 H locs hp hG => ?_)
          obtain ⟨b1, rfl, hb1, hre1, hpl1⟩ := hp
          have hG : mW X mo ad S_8 s H locs := hG
          have hre2 := hre.tr hre1
          rcases hb1 with ⟨rfl, nn, hbh, hW⟩ | ⟨rfl, hbh⟩
          · have hW : mWk S_8 (aWd a) (wkF (aWd a) x y1 nn nn) := hW
            have hh3 := hW.2.2.2.2
            refine g_eq (tgt := 106) hx hb dX4_who_70 (by decide) (by decide) (fun h3 => ?_) (fun h3 => ?_)
            · exfalso; omega
            · refine lv_aload_n hx hb dX4_who_73 rfl (lv_at hl 0 rfl) ?_
              refine m_get 33 (by decide) (v := .int (zI (kHow (wkF (aWd a) x y1 nn nn) : Int))) (congrArg (fun z => Value.int (zI z)) (show S_8.1 33 = (kHow (wkF (aWd a) x y1 nn nn) : Int) from hW.1)) hx hb hts hown hG (hts _ q3329) dX4_who_74 ?_
              refine lv_iconst (v := zI 3) hx hb dX4_who_77 (by decide +kernel) ?_
              refine g_cne (tgt := 85) hx hb dX4_who_78 (by decide) (by omega) (fun h4 => ?_) (fun h4 => ?_)
              · refine lv_iconst (v := zI 0) hx hb dX4_who_85 (by decide +kernel) ?_
                refine lv_iload_n hx hb dX4_who_86 rfl (lv_at hl 2 rfl) ?_
                refine lv_iconst (v := zI 1) hx hb dX4_who_87 (by decide +kernel) ?_
                refine g_cne (tgt := 95) hx hb dX4_who_88 (by decide) (by omega) (fun h5 => ?_) (fun h5 => ?_)
                · refine lv_iconst (v := zI 0) hx hb dX4_who_95 (by decide +kernel) ?_
                  refine g_cne (tgt := 106) hx hb dX4_who_96 (by decide) (by omega) (fun h6 => ?_) (fun h6 => ?_)
                  · exfalso; omega
                  · refine lv_iload_n hx hb dX4_who_99 rfl (lv_at hl 3 rfl) ?_
                    refine lv_iconst (v := zI 1) hx hb dX4_who_100 (by decide +kernel) ?_
                    refine lv_iload hx hb dX4_who_101 (lv_at hl 4 rfl) ?_
                    refine lv_ishl hx hb dX4_who_103 ?_
                    refine lv_topx (bt1 (x : Int)) rfl ?_
                    refine lv_ior hx hb dX4_who_104 ?_
                    refine lv_istore_n (lv' := [(3, .int ((btI (whoB (aWd a) y1 what) x) ||| (bt1 (x : Int)))), (0, .ref mo), (1, .int (zI (y1 : Int))), (2, .int (zI what)), (4, .int (zI (x : Int)))]) hx hb dX4_who_105 rfl hl (by decide) rfl (fun ls hl => ?_)
                    have hl : lv_has ls 5 [(3, .int (btI (whoB (aWd a) y1 what) (x + 1))), (0, .ref mo), (1, .int (zI (y1 : Int))), (2, .int (zI what)), (4, .int (zI (x : Int)))] := by rw [show btI (whoB (aWd a) y1 what) (x + 1) = btI (whoB (aWd a) y1 what) x ||| bt1 x from by rw [btI, if_pos (by unfold whoB; rw [hbh]; show decide (kHow (wkF (aWd a) x y1 nn nn) = 3 ↔ what = 1) = true; rw [decide_eq_true_iff]; omega)]]; exact hl
                    refine lv_iinc (v := zI ((x : Int) + 1 : Int)) (lv' := [(4, .int (zI ((x : Int) + 1 : Int))), (3, .int (btI (whoB (aWd a) y1 what) (x + 1))), (0, .ref mo), (1, .int (zI (y1 : Int))), (2, .int (zI what))]) hx hb dX4_who_106 hl (k := 4) rfl ((zI_add _ _).trans (congrArg zI (by omega))) (by decide) rfl (fun ls hl => ?_)
                    refine lv_goto (tgt := 46) hx hb dX4_who_109 (by decide) ?_
                    exact ihA (wM (aWd a) - (x + 1)) (by omega) H locs ls ⟨(x + 1), S_8, ⟨by omega, rfl, hre2⟩, hG, (lv_sub hl [2, 3, 4, 1, 0] rfl)⟩
                · refine lv_iconst (v := zI 1) hx hb dX4_who_91 (by decide +kernel) ?_
                  refine lv_goto (tgt := 96) hx hb dX4_who_92 (by decide) ?_
                  refine g_cne (tgt := 106) hx hb dX4_who_96 (by decide) (by omega) (fun h6 => ?_) (fun h6 => ?_)
                  · have hl : lv_has ls 5 [(0, .ref mo), (1, .int (zI (y1 : Int))), (2, .int (zI what)), (3, .int (btI (whoB (aWd a) y1 what) (x + 1))), (4, .int (zI (x : Int)))] := by rw [show btI (whoB (aWd a) y1 what) (x + 1) = btI (whoB (aWd a) y1 what) x from by rw [btI, if_neg (by unfold whoB; rw [hbh]; show ¬ decide (kHow (wkF (aWd a) x y1 nn nn) = 3 ↔ what = 1) = true; rw [decide_eq_true_iff]; omega)]]; exact hl
                    refine lv_iinc (v := zI ((x : Int) + 1 : Int)) (lv' := [(4, .int (zI ((x : Int) + 1 : Int))), (0, .ref mo), (1, .int (zI (y1 : Int))), (2, .int (zI what)), (3, .int (btI (whoB (aWd a) y1 what) (x + 1)))]) hx hb dX4_who_106 hl (k := 4) rfl ((zI_add _ _).trans (congrArg zI (by omega))) (by decide) rfl (fun ls hl => ?_)
                    refine lv_goto (tgt := 46) hx hb dX4_who_109 (by decide) ?_
                    exact ihA (wM (aWd a) - (x + 1)) (by omega) H locs ls ⟨(x + 1), S_8, ⟨by omega, rfl, hre2⟩, hG, (lv_sub hl [1, 2, 3, 4, 0] rfl)⟩
                  · exfalso; omega
              · refine lv_iconst (v := zI 1) hx hb dX4_who_81 (by decide +kernel) ?_
                refine lv_goto (tgt := 86) hx hb dX4_who_82 (by decide) ?_
                refine lv_iload_n hx hb dX4_who_86 rfl (lv_at hl 2 rfl) ?_
                refine lv_iconst (v := zI 1) hx hb dX4_who_87 (by decide +kernel) ?_
                refine g_cne (tgt := 95) hx hb dX4_who_88 (by decide) (by omega) (fun h5 => ?_) (fun h5 => ?_)
                · refine lv_iconst (v := zI 0) hx hb dX4_who_95 (by decide +kernel) ?_
                  refine g_cne (tgt := 106) hx hb dX4_who_96 (by decide) (by omega) (fun h6 => ?_) (fun h6 => ?_)
                  · have hl : lv_has ls 5 [(0, .ref mo), (1, .int (zI (y1 : Int))), (2, .int (zI what)), (3, .int (btI (whoB (aWd a) y1 what) (x + 1))), (4, .int (zI (x : Int)))] := by rw [show btI (whoB (aWd a) y1 what) (x + 1) = btI (whoB (aWd a) y1 what) x from by rw [btI, if_neg (by unfold whoB; rw [hbh]; show ¬ decide (kHow (wkF (aWd a) x y1 nn nn) = 3 ↔ what = 1) = true; rw [decide_eq_true_iff]; omega)]]; exact hl
                    refine lv_iinc (v := zI ((x : Int) + 1 : Int)) (lv' := [(4, .int (zI ((x : Int) + 1 : Int))), (0, .ref mo), (1, .int (zI (y1 : Int))), (2, .int (zI what)), (3, .int (btI (whoB (aWd a) y1 what) (x + 1)))]) hx hb dX4_who_106 hl (k := 4) rfl ((zI_add _ _).trans (congrArg zI (by omega))) (by decide) rfl (fun ls hl => ?_)
                    refine lv_goto (tgt := 46) hx hb dX4_who_109 (by decide) ?_
                    exact ihA (wM (aWd a) - (x + 1)) (by omega) H locs ls ⟨(x + 1), S_8, ⟨by omega, rfl, hre2⟩, hG, (lv_sub hl [1, 2, 3, 4, 0] rfl)⟩
                  · exfalso; omega
                · refine lv_iconst (v := zI 1) hx hb dX4_who_91 (by decide +kernel) ?_
                  refine lv_goto (tgt := 96) hx hb dX4_who_92 (by decide) ?_
                  refine g_cne (tgt := 106) hx hb dX4_who_96 (by decide) (by omega) (fun h6 => ?_) (fun h6 => ?_)
                  · exfalso; omega
                  · refine lv_iload_n hx hb dX4_who_99 rfl (lv_at hl 3 rfl) ?_
                    refine lv_iconst (v := zI 1) hx hb dX4_who_100 (by decide +kernel) ?_
                    refine lv_iload hx hb dX4_who_101 (lv_at hl 4 rfl) ?_
                    refine lv_ishl hx hb dX4_who_103 ?_
                    refine lv_topx (bt1 (x : Int)) rfl ?_
                    refine lv_ior hx hb dX4_who_104 ?_
                    refine lv_istore_n (lv' := [(3, .int ((btI (whoB (aWd a) y1 what) x) ||| (bt1 (x : Int)))), (0, .ref mo), (1, .int (zI (y1 : Int))), (2, .int (zI what)), (4, .int (zI (x : Int)))]) hx hb dX4_who_105 rfl hl (by decide) rfl (fun ls hl => ?_)
                    have hl : lv_has ls 5 [(3, .int (btI (whoB (aWd a) y1 what) (x + 1))), (0, .ref mo), (1, .int (zI (y1 : Int))), (2, .int (zI what)), (4, .int (zI (x : Int)))] := by rw [show btI (whoB (aWd a) y1 what) (x + 1) = btI (whoB (aWd a) y1 what) x ||| bt1 x from by rw [btI, if_pos (by unfold whoB; rw [hbh]; show decide (kHow (wkF (aWd a) x y1 nn nn) = 3 ↔ what = 1) = true; rw [decide_eq_true_iff]; omega)]]; exact hl
                    refine lv_iinc (v := zI ((x : Int) + 1 : Int)) (lv' := [(4, .int (zI ((x : Int) + 1 : Int))), (3, .int (btI (whoB (aWd a) y1 what) (x + 1))), (0, .ref mo), (1, .int (zI (y1 : Int))), (2, .int (zI what))]) hx hb dX4_who_106 hl (k := 4) rfl ((zI_add _ _).trans (congrArg zI (by omega))) (by decide) rfl (fun ls hl => ?_)
                    refine lv_goto (tgt := 46) hx hb dX4_who_109 (by decide) ?_
                    exact ihA (wM (aWd a) - (x + 1)) (by omega) H locs ls ⟨(x + 1), S_8, ⟨by omega, rfl, hre2⟩, hG, (lv_sub hl [2, 3, 4, 1, 0] rfl)⟩
          · refine g_eq (tgt := 106) hx hb dX4_who_70 (by decide) (by decide) (fun h3 => ?_) (fun h3 => ?_)
            · have hl : lv_has ls 5 [(0, .ref mo), (1, .int (zI (y1 : Int))), (2, .int (zI what)), (3, .int (btI (whoB (aWd a) y1 what) (x + 1))), (4, .int (zI (x : Int)))] := by rw [show btI (whoB (aWd a) y1 what) (x + 1) = btI (whoB (aWd a) y1 what) x from by rw [btI, if_neg (by unfold whoB; rw [hbh]; exact nofun)]]; exact hl
              refine lv_iinc (v := zI ((x : Int) + 1 : Int)) (lv' := [(4, .int (zI ((x : Int) + 1 : Int))), (0, .ref mo), (1, .int (zI (y1 : Int))), (2, .int (zI what)), (3, .int (btI (whoB (aWd a) y1 what) (x + 1)))]) hx hb dX4_who_106 hl (k := 4) rfl ((zI_add _ _).trans (congrArg zI (by omega))) (by decide) rfl (fun ls hl => ?_)
              refine lv_goto (tgt := 46) hx hb dX4_who_109 (by decide) ?_
              exact ihA (wM (aWd a) - (x + 1)) (by omega) H locs ls ⟨(x + 1), S_8, ⟨by omega, rfl, hre2⟩, hG, (lv_sub hl [1, 2, 3, 4, 0] rfl)⟩
            · exfalso; omega
      · refine lv_aload_n hx hb dX4_who_35 rfl (lv_at hl 0 rfl) ?_
        refine lv_iload_n hx hb dX4_who_36 rfl (lv_at hl 1 rfl) ?_
        refine m_ci (va_runV (As := [.int (zI (y1 : Int))]) (rest := []) ⟨hx, hb, hml, hown, hts⟩ (metX4_heat (y := y1) hX.o hA.w (by omega)) (cwV 1 hts (lw_V q3668 q3670 qs76 q102 q3671) rfl rfl rfl (by decide +kernel) ⟨Nat.le_of_ble_eq_true rfl, Nat.le_of_ble_eq_true rfl⟩) (m_preV hG) rfl rfl hl.1 rfl (lv_room (Nat.le_of_ble_eq_true rfl)) dX4_who_37 ⟨Nat.le_of_ble_eq_true rfl, Nat.le_of_ble_eq_true rfl⟩) hG (fun r_9 S_10 H locs hp hG => ?_)
        obtain ⟨rfl, hre⟩ := hp
        have hG : mW X mo ad S_10 s H locs := hG
        exact m_iret hx hb hr hlocks hG (mX.castB (by unfold opWho; all_goals ((repeat (first | rw [if_pos (by omega)] | rw [if_neg (by omega)])) <;> rfl)) (hX.real hre)) ⟨Nat.le_of_ble_eq_true rfl, Nat.le_of_ble_eq_true rfl⟩ dX4_who_40
    · refine lv_aload_n hx hb dX4_who_23 rfl (lv_at hl 0 rfl) ?_
      refine lv_bipush (v := zI (-5)) hx hb dX4_who_24 (by decide +kernel) ?_
      refine g_topz (y := -((5 : Nat) : Int)) (by decide) ?_
      refine m_ci (va_runV (As := [.int (zI (-((5 : Nat) : Int)))]) (rest := []) ⟨hx, hb, hml, hown, hts⟩ (metX4_no 5 (by decide)) (cwV 1 hts (lw_V q3427 q3429 qs43 q102 q3430) rfl rfl rfl (by decide +kernel) ⟨Nat.le_of_ble_eq_true rfl, Nat.le_of_ble_eq_true rfl⟩) (m_preV hG) rfl rfl hl.1 rfl (lv_room (Nat.le_of_ble_eq_true rfl)) dX4_who_26 ⟨Nat.le_of_ble_eq_true rfl, Nat.le_of_ble_eq_true rfl⟩) hG (fun r_11 S_12 H locs hp hG => ?_)
      obtain ⟨rfl, rfl⟩ := hp
      have hG : mW X mo ad (mNo S 5) s H locs := hG
      exact m_iret hx hb hr hlocks hG (by first | (exfalso; omega) | exact (hX.noB 5 (by unfold opWho; all_goals ((repeat (first | rw [if_pos (by omega)] | rw [if_neg (by omega)])) <;> rfl)))) ⟨Nat.le_of_ble_eq_true rfl, Nat.le_of_ble_eq_true rfl⟩ dX4_who_29
  · refine lv_aload_n hx hb dX4_who_8 rfl (lv_at hl 0 rfl) ?_
    refine lv_iconst (v := zI (-1)) hx hb dX4_who_9 (by decide +kernel) ?_
    refine g_topz (y := -((1 : Nat) : Int)) (by decide) ?_
    refine m_ci (va_runV (As := [.int (zI (-((1 : Nat) : Int)))]) (rest := []) ⟨hx, hb, hml, hown, hts⟩ (metX4_no 1 (by decide)) (cwV 1 hts (lw_V q3427 q3429 qs43 q102 q3430) rfl rfl rfl (by decide +kernel) ⟨Nat.le_of_ble_eq_true rfl, Nat.le_of_ble_eq_true rfl⟩) (m_preV hG) rfl rfl hl.1 rfl (lv_room (Nat.le_of_ble_eq_true rfl)) dX4_who_10 ⟨Nat.le_of_ble_eq_true rfl, Nat.le_of_ble_eq_true rfl⟩) hG (fun r_13 S_14 H locs hp hG => ?_)
    obtain ⟨rfl, rfl⟩ := hp
    have hG : mW X mo ad (mNo S 1) s H locs := hG
    exact m_iret hx hb hr hlocks hG (by first | (exfalso; omega) | exact (hX.noB 1 (by unfold opWho; all_goals ((repeat (first | rw [if_pos (by omega)] | rw [if_neg (by omega)])) <;> rfl)))) ⟨Nat.le_of_ble_eq_true rfl, Nat.le_of_ble_eq_true rfl⟩ dX4_who_13

