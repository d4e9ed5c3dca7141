set_option maxRecDepth 100000
theorem orgF_S {w : aW} {f r i : Nat} : orgF w (f + 1) r i = match cmF w r i with
    | none => (r, i)
    | some j => orgF w f ((wFo w r).getD 0) j := rfl
set_option maxHeartbeats 4000000 in
theorem metX4_through {l : Launch} {X : gX} {mo : Nat} {ad : Nat → Nat} {S : mS} {a : aS} (hX : mX S a) (hA : aOK a) {x y i : Int} (hr0 : -2147483648 ≤ x ∧ x < 2147483648 ∧ -2147483648 ≤ y ∧ y < 2147483648 ∧ -2147483648 ≤ i ∧ i < 2147483648) : Met l yX4_through (ws_ yX4_through cX4_through 7 (some FieldType.int)) ({ frames := 2, cells := 0, slots := 0, locals := 44 }) (mP X mo ad S [.ref mo, .int (zI x), .int (zI y), .int (zI i)]) (mQi X mo ad (fun u T => u = zI (opThrough a x y i).1 ∧ mX T (opThrough a x y i).2)) 0 0 (mA mo ad) := by
  refine Met.m (by decide) (Nat.le_of_ble_eq_true rfl) ?_
  intro p e s m below meth c ls hx hb hr hts hown hlocks hml hG hl
  have hl : lv_has ls 7 [(0, .ref mo), (1, .int (zI x)), (2, .int (zI y)), (3, .int (zI i))] := hl
  have hNN := hA.w.n
  have hMM := hA.w.m
  refine lv_aload_n hx hb dX4_through_0 rfl (lv_at hl 0 rfl) ?_
  refine lv_iload_n hx hb dX4_through_1 rfl (lv_at hl 1 rfl) ?_
  have hq1 := hX.o.n
  have hQ1 := hA.w.n
  refine m_ci (va_runV (As := [.int (zI x)]) (rest := []) ⟨hx, hb, hml, hown, hts⟩ (metX4_isRevision (by omega) (by omega)) (cwV 1 hts (lw_V q3481 q3483 qs48 q102 q3484) rfl rfl rfl (by decide +kernel) ⟨Nat.le_of_ble_eq_true rfl, Nat.le_of_ble_eq_true rfl⟩) (m_preV hG) rfl rfl hl.1 rfl (lv_room (Nat.le_of_ble_eq_true rfl)) dX4_through_2 ⟨Nat.le_of_ble_eq_true rfl, Nat.le_of_ble_eq_true rfl⟩) hG (fun r_1 S_2 H locs hp hG => ?_)
  obtain ⟨b1, rfl, hb1, rfl⟩ := hp
  have hG : mW X mo ad S s H locs := hG
  refine g_eq (tgt := 16) hx hb dX4_through_5 (by decide) (by omega) (fun h2 => ?_) (fun h2 => ?_)
  · refine lv_aload_n hx hb dX4_through_16 rfl (lv_at hl 0 rfl) ?_
    refine lv_iconst (v := zI (-1)) hx hb dX4_through_17 (by decide +kernel) ?_
    refine g_topz (y := -((1 : Nat) : Int)) (by decide) ?_
    refine m_ci (va_runV (As := [.int (zI (-((1 : Nat) : Int)))]) (rest := []) ⟨hx, hb, hml, hown, hts⟩ (metX4_no10 1 (by decide)) (cwV 1 hts (lw_V q3543 q3545 qs59 q102 q3546) rfl rfl rfl (by decide +kernel) ⟨Nat.le_of_ble_eq_true rfl, Nat.le_of_ble_eq_true rfl⟩) (m_preV hG) rfl rfl hl.1 rfl (lv_room (Nat.le_of_ble_eq_true rfl)) dX4_through_18 ⟨Nat.le_of_ble_eq_true rfl, Nat.le_of_ble_eq_true rfl⟩) hG (fun r_3 S_4 H locs hp hG => ?_)
    obtain ⟨rfl, rfl⟩ := hp
    have hG : mW X mo ad (mNo S 1) s H locs := hG
    exact m_iret hx hb hr hlocks hG (by first | (exfalso; omega) | exact (hX.noT 1 (by unfold opThrough; all_goals ((repeat (first | rw [if_pos (by omega)] | rw [if_neg (by omega)])) <;> rfl)))) ⟨Nat.le_of_ble_eq_true rfl, Nat.le_of_ble_eq_true rfl⟩ dX4_through_21
  · refine lv_aload_n hx hb dX4_through_8 rfl (lv_at hl 0 rfl) ?_
    refine lv_iload_n hx hb dX4_through_9 rfl (lv_at hl 2 rfl) ?_
    have hq3 := hX.o.n
    have hQ3 := hA.w.n
    refine m_ci (va_runV (As := [.int (zI y)]) (rest := []) ⟨hx, hb, hml, hown, hts⟩ (metX4_isRevision (by omega) (by omega)) (cwV 1 hts (lw_V q3481 q3483 qs48 q102 q3484) rfl rfl rfl (by decide +kernel) ⟨Nat.le_of_ble_eq_true rfl, Nat.le_of_ble_eq_true rfl⟩) (m_preV hG) rfl rfl hl.1 rfl (lv_room (Nat.le_of_ble_eq_true rfl)) dX4_through_10 ⟨Nat.le_of_ble_eq_true rfl, Nat.le_of_ble_eq_true rfl⟩) hG (fun r_5 S_6 H locs hp hG => ?_)
    obtain ⟨b3, rfl, hb3, rfl⟩ := hp
    have hG : mW X mo ad S s H locs := hG
    refine g_ne (tgt := 22) hx hb dX4_through_13 (by decide) (by omega) (fun h4 => ?_) (fun h4 => ?_)
    · obtain ⟨x1, rfl⟩ : ∃ n9 : Nat, x = n9 := ⟨x.toNat, by omega⟩
      obtain ⟨y1, rfl⟩ : ∃ n9 : Nat, y = n9 := ⟨y.toNat, by omega⟩
      refine lv_aload_n hx hb dX4_through_22 rfl (lv_at hl 0 rfl) ?_
      refine lv_iload_n hx hb dX4_through_23 rfl (lv_at hl 1 rfl) ?_
      refine lv_iload_n hx hb dX4_through_24 rfl (lv_at hl 3 rfl) ?_
      have hq5 := hX.o.len (r := x1) (by omega)
      have hQ5 := (hA.w.tx (r := x1) (by omega)).1
      refine m_ci (va_runV (As := [.int (zI (x1 : Int)), .int (zI i)]) (rest := []) ⟨hx, hb, hml, hown, hts⟩ (metX4_isLine (r := x1) (by omega) ⟨by omega, by omega, by omega⟩) (cwV 2 hts (lw_V q3534 q3536 qs58 q102 q3537) rfl rfl rfl (by decide +kernel) ⟨Nat.le_of_ble_eq_true rfl, Nat.le_of_ble_eq_true rfl⟩) (m_preV hG) rfl rfl hl.1 rfl (lv_room (Nat.le_of_ble_eq_true rfl)) dX4_through_25 ⟨Nat.le_of_ble_eq_true rfl, Nat.le_of_ble_eq_true rfl⟩) hG (fun r_7 S_8 H locs hp hG => ?_)
      obtain ⟨b5, rfl, hb5, rfl⟩ := hp
      have hG : mW X mo ad S s H locs := hG
      rw [hq5] at hb5
      refine g_ne (tgt := 38) hx hb dX4_through_28 (by decide) (by omega) (fun h6 => ?_) (fun h6 => ?_)
      · obtain ⟨i1, rfl⟩ : ∃ n9 : Nat, i = n9 := ⟨i.toNat, by omega⟩
        have hlx := (hA.w.tx (r := x1) (by omega)).1
        refine lv_aload_n hx hb dX4_through_38 rfl (lv_at hl 0 rfl) ?_
        refine lv_iload_n hx hb dX4_through_39 rfl (lv_at hl 2 rfl) ?_
        refine lv_iload_n hx hb dX4_through_40 rfl (lv_at hl 1 rfl) ?_
        refine m_ci (va_runV (As := [.int (zI (y1 : Int)), .int (zI (x1 : Int))]) (rest := []) ⟨hx, hb, hml, hown, hts⟩ (metX4_behind (t := y1) (r := x1) hX.o hA.w (by omega) (by omega)) (cwV 2 hts (lw_V q3563 q3565 qs60 q102 q3566) rfl rfl rfl (by decide +kernel) ⟨Nat.le_of_ble_eq_true rfl, Nat.le_of_ble_eq_true rfl⟩) (m_preV hG) rfl rfl hl.1 rfl (lv_room (Nat.le_of_ble_eq_true rfl)) dX4_through_41 ⟨Nat.le_of_ble_eq_true rfl, Nat.le_of_ble_eq_true rfl⟩) hG (fun r_9 S_10 H locs hp hG => ?_)
        obtain ⟨rfl, har, hch⟩ := hp
        have hG : mW X mo ad S_10 s H locs := hG
        have hre := har.real (by decide)
        rcases hbh : beh (wFo (aWd a)) y1 x1 with _ | n
        · refine g_topz (x := oI none) (y := -1) rfl ?_
          refine lv_istore (lv' := [(4, .int (zI (-1))), (0, .ref mo), (1, .int (zI (x1 : Int))), (2, .int (zI (y1 : Int))), (3, .int (zI (i1 : Int)))]) hx hb dX4_through_44 hl (by decide) rfl (fun ls hl => ?_)
          refine lv_iload hx hb dX4_through_46 (lv_at hl 0 rfl) ?_
          refine lv_iconst (v := zI (-1)) hx hb dX4_through_48 (by decide +kernel) ?_
          refine g_cne (tgt := 59) hx hb dX4_through_49 (by decide) (by omega) (fun h6 => ?_) (fun h6 => ?_)
          · exfalso; omega
          · refine lv_aload_n hx hb dX4_through_52 rfl (lv_at hl 1 rfl) ?_
            refine lv_bipush (v := zI (-6)) hx hb dX4_through_53 (by decide +kernel) ?_
            refine g_topz (y := -((6 : Nat) : Int)) (by decide) ?_
            refine m_ci (va_runV (As := [.int (zI (-((6 : Nat) : Int)))]) (rest := []) ⟨hx, hb, hml, hown, hts⟩ (metX4_no10 6 (by decide)) (cwV 1 hts (lw_V q3543 q3545 qs59 q102 q3546) rfl rfl rfl (by decide +kernel) ⟨Nat.le_of_ble_eq_true rfl, Nat.le_of_ble_eq_true rfl⟩) (m_preV hG) rfl rfl hl.1 rfl (lv_room (Nat.le_of_ble_eq_true rfl)) dX4_through_55 ⟨Nat.le_of_ble_eq_true rfl, Nat.le_of_ble_eq_true rfl⟩) hG (fun r_11 S_12 H locs hp hG => ?_)
            obtain ⟨rfl, rfl⟩ := hp
            have hG : mW X mo ad (mNo S_10 6) s H locs := hG
            exact m_iret hx hb hr hlocks hG ((hX.real hre).noT 6 (by unfold opThrough; rw [if_neg (by omega), if_neg (by unfold aLn; simp only [Int.toNat_natCast]; omega)]; simp only [Int.toNat_natCast, hbh]; all_goals ((repeat (first | rw [if_pos (by omega)] | rw [if_neg (by omega)])) <;> rfl))) ⟨Nat.le_of_ble_eq_true rfl, Nat.le_of_ble_eq_true rfl⟩ dX4_through_58
        · obtain ⟨hle, hfo, hend⟩ := beh_anc hA.w.fo n y1 x1 hbh
          have hln := hle n (Nat.le_refl n)
          refine g_topz (x := oI (some n)) (y := (n : Int)) rfl ?_
          refine lv_istore (lv' := [(4, .int (zI (n : Int))), (0, .ref mo), (1, .int (zI (x1 : Int))), (2, .int (zI (y1 : Int))), (3, .int (zI (i1 : Int)))]) hx hb dX4_through_44 hl (by decide) rfl (fun ls hl => ?_)
          refine lv_iload hx hb dX4_through_46 (lv_at hl 0 rfl) ?_
          refine lv_iconst (v := zI (-1)) hx hb dX4_through_48 (by decide +kernel) ?_
          refine g_cne (tgt := 59) hx hb dX4_through_49 (by decide) (by omega) (fun h6 => ?_) (fun h6 => ?_)
          · have hthr := thr_lt hA.w (y := y1) (i := i1) (n := n) (by omega) (fun k hk => by have := hle k (by omega); omega)
            refine lv_iload_n hx hb dX4_through_59 rfl (lv_at hl 4 rfl) ?_
            refine lv_istore (lv' := [(5, .int (zI (i1 : Int))), (4, .int (zI (n : Int))), (0, .ref mo), (1, .int (zI (x1 : Int))), (2, .int (zI (y1 : Int))), (3, .int (zI (i1 : Int)))]) hx hb dX4_through_60 hl (by decide) rfl (fun ls hl => ?_)
            refine lv_iload hx hb dX4_through_62 (lv_at hl 1 rfl) ?_
            refine lv_iconst (v := zI 1) hx hb dX4_through_64 (by decide +kernel) ?_
            refine g_isub hx hb dX4_through_65 ?_
            refine lv_istore (lv' := [(6, .int (zI ((n : Int) - 1))), (5, .int (zI (i1 : Int))), (4, .int (zI (n : Int))), (0, .ref mo), (1, .int (zI (x1 : Int))), (2, .int (zI (y1 : Int))), (3, .int (zI (i1 : Int)))]) hx hb dX4_through_66 hl (by decide) rfl (fun ls hl => ?_)
            have hl : lv_has ls 7 [(6, .int (zI ((n : Int) - 1 - (0 : Nat)))), (5, .int (zI (oI (thr (aWd a) y1 i1 n 0)))), (4, .int (zI (n : Int))), (0, .ref mo), (1, .int (zI (x1 : Int))), (2, .int (zI (y1 : Int))), (3, .int (zI (i1 : Int)))] := by rw [show ((n : Int) - 1 - ((0 : Nat) : Int)) = (n : Int) - 1 from Int.sub_zero _]; exact hl
            refine g_loop (fun mz H locs ls => ∃ (d : Nat), (d ≤ n ∧ mz = n - d) ∧ mW X mo ad S_10 s H locs ∧ lv_has ls 7 [(0, .ref mo), (1, .int (zI (x1 : Int))), (2, .int (zI (y1 : Int))), (3, .int (zI (i1 : Int))), (4, .int (zI (n : Int))), (5, .int (zI (oI (thr (aWd a) y1 i1 n d)))), (6, .int (zI ((n : Int) - 1 - (d : Int))))]) (n - 0) ⟨0, ⟨Nat.zero_le _, rfl⟩, hG, (lv_sub hl [3, 4, 5, 6, 2, 1, 0] rfl)⟩ (fun mz ihA H locs ls hI => ?_)
            obtain ⟨d, ⟨hd, hmz⟩, hG, hl⟩ := hI
            refine lv_iload hx hb dX4_through_68 (lv_at hl 6 rfl) ?_
            refine g_lt (tgt := 105) hx hb dX4_through_70 (by decide) (by omega) (fun h7 => ?_) (fun h7 => ?_)
            · refine lv_iload hx hb dX4_through_105 (lv_at hl 5 rfl) ?_
              exact m_iret hx hb hr hlocks hG (mX.cast (by unfold opThrough; rw [if_neg (by omega), if_neg (by unfold aLn; simp only [Int.toNat_natCast]; omega)]; simp only [Int.toNat_natCast, hbh]; rw [show d = n by omega]) (hX.real hre)) ⟨Nat.le_of_ble_eq_true rfl, Nat.le_of_ble_eq_true rfl⟩ dX4_through_107
            · refine lv_iload hx hb dX4_through_73 (lv_at hl 5 rfl) ?_
              refine lv_iconst (v := zI (-1)) hx hb dX4_through_75 (by decide +kernel) ?_
              refine g_ceq (tgt := 105) hx hb dX4_through_76 (by decide) (by have q := oI_R (thr (aWd a) y1 i1 n d) (fun x hx => by have := hthr d x (by omega) hx; omega); omega) (fun h8 => ?_) (fun h8 => ?_)
              · refine lv_iload hx hb dX4_through_105 (lv_at hl 5 rfl) ?_
                exact m_iret hx hb hr hlocks hG (mX.cast (by unfold opThrough; rw [if_neg (by omega), if_neg (by unfold aLn; simp only [Int.toNat_natCast]; omega)]; simp only [Int.toNat_natCast, hbh]; rw [show thr (aWd a) y1 i1 n n = thr (aWd a) y1 i1 n d by rw [oI_m1.mp h8]; have q := thr_none (oI_m1.mp h8) (n - d); rw [show d + (n - d) = n by omega] at q; exact q]) (hX.real hre)) ⟨Nat.le_of_ble_eq_true rfl, Nat.le_of_ble_eq_true rfl⟩ dX4_through_107
              · obtain ⟨z, hz⟩ : ∃ z, thr (aWd a) y1 i1 n d = some z := by cases hq : thr (aWd a) y1 i1 n d with
        | none => exact absurd (oI_m1.mpr hq) h8
        | some z => exact ⟨z, rfl⟩
                have hz24 := hthr d z (by omega) hz
                have hA1 := hle (n - (d + 1)) (by omega)
                have hA2 := hfo (n - (d + 1)) (by omega)
                have hl : lv_has ls 7 [(0, .ref mo), (1, .int (zI (x1 : Int))), (2, .int (zI (y1 : Int))), (3, .int (zI (i1 : Int))), (4, .int (zI (n : Int))), (5, .int (zI (z : Int))), (6, .int (zI ((n : Int) - 1 - (d : Int))))] := by rw [hz, oI_some] at hl; exact hl
                refine lv_aload_n hx hb dX4_through_79 rfl (lv_at hl 0 rfl) ?_
                refine m_get 4 (by decide) (v := .ref (ad 4)) rfl hx hb hts hown hG (hts _ q3300) dX4_through_80 ?_
                refine lv_bipush (v := zI 24) hx hb dX4_through_83 (by decide +kernel) ?_
                refine lv_aload_n hx hb dX4_through_85 rfl (lv_at hl 0 rfl) ?_
                refine m_get 30 (by decide) (v := .ref (ad 30)) rfl hx hb hts hown hG (hts _ q3326) dX4_through_86 ?_
                refine lv_iload hx hb dX4_through_89 (lv_at hl 6 rfl) ?_
                refine m_iald 30 rfl rfl (by decide) (n - (d + 1)) (v := (anc (wFo (aWd a)) (n - (d + 1)) y1 : Int)) ⟨by omega, by show _ < 16; omega⟩ (hch n hbh _ (by omega)) hx hb hG dX4_through_91 ?_
                refine g_imul hx hb dX4_through_92 ?_
                refine lv_iload hx hb dX4_through_93 (lv_at hl 5 rfl) ?_
                refine g_iadd hx hb dX4_through_95 ?_
                refine m_iald 4 rfl rfl (by decide) (24 * anc (wFo (aWd a)) (n - (d + 1)) y1 + z) (v := (oI (thr (aWd a) y1 i1 n (d + 1)))) ⟨by omega, by show _ < 384; omega⟩ ((congrFun (hre 4 (by decide)).2.1 _).trans ((hX.o.cm (by omega) (by rw [hA2]; exact nofun) hz24).trans (by show _ = oI ((thr (aWd a) y1 i1 n d).bind _); rw [hz]; rfl))) hx hb hG dX4_through_96 ?_
                refine lv_istore (lv' := [(5, .int (zI (oI (thr (aWd a) y1 i1 n (d + 1))))), (0, .ref mo), (1, .int (zI (x1 : Int))), (2, .int (zI (y1 : Int))), (3, .int (zI (i1 : Int))), (4, .int (zI (n : Int))), (6, .int (zI ((n : Int) - 1 - (d : Int))))]) hx hb dX4_through_97 hl (by decide) rfl (fun ls hl => ?_)
                refine lv_iinc (v := zI (((n : Int) - 1 - (d : Int)) - 1 : Int)) (lv' := [(6, .int (zI (((n : Int) - 1 - (d : Int)) - 1 : Int))), (5, .int (zI (oI (thr (aWd a) y1 i1 n (d + 1))))), (0, .ref mo), (1, .int (zI (x1 : Int))), (2, .int (zI (y1 : Int))), (3, .int (zI (i1 : Int))), (4, .int (zI (n : Int)))]) hx hb dX4_through_99 hl (k := 6) rfl ((zI_add _ _).trans (congrArg zI (by omega))) (by decide) rfl (fun ls hl => ?_)
                have hl : lv_has ls 7 [(6, .int (zI ((n : Int) - 1 - ((d + 1 : Nat) : Int)))), (5, .int (zI (oI (thr (aWd a) y1 i1 n (d + 1))))), (0, .ref mo), (1, .int (zI (x1 : Int))), (2, .int (zI (y1 : Int))), (3, .int (zI (i1 : Int))), (4, .int (zI (n : Int)))] := by rw [show ((n : Int) - 1 - ((d + 1 : Nat) : Int)) = (n : Int) - 1 - (d : Int) - 1 by omega]; exact hl
                refine lv_goto (tgt := 68) hx hb dX4_through_102 (by decide) ?_
                exact ihA (n - (d + 1)) (by omega) H locs ls ⟨(d + 1), ⟨by omega, rfl⟩, hG, (lv_sub hl [2, 3, 4, 5, 6, 1, 0] rfl)⟩
          · exfalso; omega
      · refine lv_aload_n hx hb dX4_through_31 rfl (lv_at hl 0 rfl) ?_
        refine lv_bipush (v := zI (-5)) hx hb dX4_through_32 (by decide +kernel) ?_
        refine g_topz (y := -((5 : Nat) : Int)) (by decide) ?_
        refine m_ci (va_runV (As := [.int (zI (-((5 : Nat) : Int)))]) (rest := []) ⟨hx, hb, hml, hown, hts⟩ (metX4_no10 5 (by decide)) (cwV 1 hts (lw_V q3543 q3545 qs59 q102 q3546) rfl rfl rfl (by decide +kernel) ⟨Nat.le_of_ble_eq_true rfl, Nat.le_of_ble_eq_true rfl⟩) (m_preV hG) rfl rfl hl.1 rfl (lv_room (Nat.le_of_ble_eq_true rfl)) dX4_through_34 ⟨Nat.le_of_ble_eq_true rfl, Nat.le_of_ble_eq_true rfl⟩) hG (fun r_13 S_14 H locs hp hG => ?_)
        obtain ⟨rfl, rfl⟩ := hp
        have hG : mW X mo ad (mNo S 5) s H locs := hG
        exact m_iret hx hb hr hlocks hG (by first | (exfalso; omega) | exact (hX.noT 5 (by unfold opThrough; (repeat (first | rw [if_pos (by omega)] | rw [if_neg (by omega)])); all_goals (try (unfold aLn; simp only [Int.toNat_natCast])); all_goals ((repeat (first | rw [if_pos (by omega)] | rw [if_neg (by omega)])) <;> rfl)))) ⟨Nat.le_of_ble_eq_true rfl, Nat.le_of_ble_eq_true rfl⟩ dX4_through_37
    · refine lv_aload_n hx hb dX4_through_16 rfl (lv_at hl 0 rfl) ?_
      refine lv_iconst (v := zI (-1)) hx hb dX4_through_17 (by decide +kernel) ?_
      refine g_topz (y := -((1 : Nat) : Int)) (by decide) ?_
      refine m_ci (va_runV (As := [.int (zI (-((1 : Nat) : Int)))]) (rest := []) ⟨hx, hb, hml, hown, hts⟩ (metX4_no10 1 (by decide)) (cwV 1 hts (lw_V q3543 q3545 qs59 q102 q3546) rfl rfl rfl (by decide +kernel) ⟨Nat.le_of_ble_eq_true rfl, Nat.le_of_ble_eq_true rfl⟩) (m_preV hG) rfl rfl hl.1 rfl (lv_room (Nat.le_of_ble_eq_true rfl)) dX4_through_18 ⟨Nat.le_of_ble_eq_true rfl, Nat.le_of_ble_eq_true rfl⟩) hG (fun r_15 S_16 H locs hp hG => ?_)
      obtain ⟨rfl, rfl⟩ := hp
      have hG : mW X mo ad (mNo S 1) s H locs := hG
      exact m_iret hx hb hr hlocks hG (by first | (exfalso; omega) | exact (hX.noT 1 (by unfold opThrough; all_goals ((repeat (first | rw [if_pos (by omega)] | rw [if_neg (by omega)])) <;> rfl)))) ⟨Nat.le_of_ble_eq_true rfl, Nat.le_of_ble_eq_true rfl⟩ dX4_through_21

set_option maxHeartbeats 4000000 in
theorem metX4_origin {l : Launch} {X : gX} {mo : Nat} {ad : Nat → Nat} {S : mS} {a : aS} (hX : mX S a) (hA : aOK a) {x i what : Int} (hr0 : -2147483648 ≤ x ∧ x < 2147483648 ∧ -2147483648 ≤ i ∧ i < 2147483648 ∧ -2147483648 ≤ what ∧ what < 2147483648) : Met l yX4_origin (ws_ yX4_origin cX4_origin 7 (some FieldType.int)) ({ frames := 2, cells := 0, slots := 0, locals := 44 }) (mP X mo ad S [.ref mo, .int (zI x), .int (zI i), .int (zI what)]) (mQi X mo ad (fun u T => u = zI (opOrigin a x i what).1 ∧ mX T (opOrigin a x i what).2)) 0 0 (mA mo ad) := by
  refine Met.m (by decide) (Nat.le_of_ble_eq_true rfl) ?_
  intro p e s m below meth c ls hx hb hr hts hown hlocks hml hG hl
  have hl : lv_has ls 7 [(0, .ref mo), (1, .int (zI x)), (2, .int (zI i)), (3, .int (zI what))] := hl
  have hNN := hA.w.n
  have hMM := hA.w.m
  refine lv_aload_n hx hb dX4_origin_0 rfl (lv_at hl 0 rfl) ?_
  refine lv_iload_n hx hb dX4_origin_1 rfl (lv_at hl 1 rfl) ?_
  have hq1 := hX.o.n
  have hQ1 := hA.w.n
  refine m_ci (va_runV (As := [.int (zI x)]) (rest := []) ⟨hx, hb, hml, hown, hts⟩ (metX4_isRevision (by omega) (by omega)) (cwV 1 hts (lw_V q3481 q3483 qs48 q102 q3484) rfl rfl rfl (by decide +kernel) ⟨Nat.le_of_ble_eq_true rfl, Nat.le_of_ble_eq_true rfl⟩) (m_preV hG) rfl rfl hl.1 rfl (lv_room (Nat.le_of_ble_eq_true rfl)) dX4_origin_2 ⟨Nat.le_of_ble_eq_true rfl, Nat.le_of_ble_eq_true rfl⟩) hG (fun r_1 S_2 H locs hp hG => ?_)
  obtain ⟨b1, rfl, hb1, rfl⟩ := hp
  have hG : mW X mo ad S s H locs := hG
  refine g_ne (tgt := 14) hx hb dX4_origin_5 (by decide) (by omega) (fun h2 => ?_) (fun h2 => ?_)
  · obtain ⟨x1, rfl⟩ : ∃ n9 : Nat, x = n9 := ⟨x.toNat, by omega⟩
    refine lv_aload_n hx hb dX4_origin_14 rfl (lv_at hl 0 rfl) ?_
    refine lv_iload_n hx hb dX4_origin_15 rfl (lv_at hl 1 rfl) ?_
    refine lv_iload_n hx hb dX4_origin_16 rfl (lv_at hl 2 rfl) ?_
    have hq3 := hX.o.len (r := x1) (by omega)
    have hQ3 := (hA.w.tx (r := x1) (by omega)).1
    refine m_ci (va_runV (As := [.int (zI (x1 : Int)), .int (zI i)]) (rest := []) ⟨hx, hb, hml, hown, hts⟩ (metX4_isLine (r := x1) (by omega) ⟨by omega, by omega, by omega⟩) (cwV 2 hts (lw_V q3534 q3536 qs58 q102 q3537) rfl rfl rfl (by decide +kernel) ⟨Nat.le_of_ble_eq_true rfl, Nat.le_of_ble_eq_true rfl⟩) (m_preV hG) rfl rfl hl.1 rfl (lv_room (Nat.le_of_ble_eq_true rfl)) dX4_origin_17 ⟨Nat.le_of_ble_eq_true rfl, Nat.le_of_ble_eq_true rfl⟩) hG (fun r_3 S_4 H locs hp hG => ?_)
    obtain ⟨b3, rfl, hb3, rfl⟩ := hp
    have hG : mW X mo ad S s H locs := hG
    rw [hq3] at hb3
    refine g_eq (tgt := 32) hx hb dX4_origin_20 (by decide) (by omega) (fun h4 => ?_) (fun h4 => ?_)
    · refine lv_aload_n hx hb dX4_origin_32 rfl (lv_at hl 0 rfl) ?_
      refine lv_bipush (v := zI (-5)) hx hb dX4_origin_33 (by decide +kernel) ?_
      refine g_topz (y := -((5 : Nat) : Int)) (by decide) ?_
      refine m_ci (va_runV (As := [.int (zI (-((5 : Nat) : Int)))]) (rest := []) ⟨hx, hb, hml, hown, hts⟩ (metX4_no 5 (by decide)) (cwV 1 hts (lw_V q3427 q3429 qs43 q102 q3430) rfl rfl rfl (by decide +kernel) ⟨Nat.le_of_ble_eq_true rfl, Nat.le_of_ble_eq_true rfl⟩) (m_preV hG) rfl rfl hl.1 rfl (lv_room (Nat.le_of_ble_eq_true rfl)) dX4_origin_35 ⟨Nat.le_of_ble_eq_true rfl, Nat.le_of_ble_eq_true rfl⟩) hG (fun r_5 S_6 H locs hp hG => ?_)
      obtain ⟨rfl, rfl⟩ := hp
      have hG : mW X mo ad (mNo S 5) s H locs := hG
      exact m_iret hx hb hr hlocks hG (by first | (exfalso; omega) | exact (hX.noR 5 (by unfold opOrigin; (repeat (first | rw [if_pos (by omega)] | rw [if_neg (by omega)])); all_goals (try (unfold aLn; simp only [Int.toNat_natCast])); all_goals ((repeat (first | rw [if_pos (by omega)] | rw [if_neg (by omega)])) <;> rfl)))) ⟨Nat.le_of_ble_eq_true rfl, Nat.le_of_ble_eq_true rfl⟩ dX4_origin_38
    · refine lv_iload_n hx hb dX4_origin_23 rfl (lv_at hl 3 rfl) ?_
      refine lv_iconst (v := zI 0) hx hb dX4_origin_24 (by decide +kernel) ?_
      refine lv_iconst (v := zI 1) hx hb dX4_origin_25 (by decide +kernel) ?_
      refine m_ci (va_runS (As := [.int (zI what), .int (zI 0), .int (zI 1)]) (rest := []) ⟨hx, hb, hml, hown, hts⟩ (metX4_within (by omega)) (va_cwS 3 hts (lw_S q3424 q3425 q102 q3426) rfl rfl rfl (by decide +kernel) ⟨Nat.le_of_ble_eq_true rfl, Nat.le_of_ble_eq_true rfl⟩) (m_preS hG) rfl rfl hl.1 rfl (lv_room (Nat.le_of_ble_eq_true rfl)) dX4_origin_26 ⟨Nat.le_of_ble_eq_true rfl, Nat.le_of_ble_eq_true rfl⟩) hG (fun r_7 S_8 H locs hp hG => ?_)
      obtain ⟨bw5, rfl, hbw5, rfl⟩ := hp
      have hG : mW X mo ad S s H locs := hG
      refine g_ne (tgt := 39) hx hb dX4_origin_29 (by decide) (by omega) (fun h6 => ?_) (fun h6 => ?_)
      · obtain ⟨i1, rfl⟩ : ∃ n9 : Nat, i = n9 := ⟨i.toNat, by omega⟩
        have hlx := (hA.w.tx (r := x1) (by omega)).1
        refine lv_iload_n hx hb dX4_origin_39 rfl (lv_at hl 1 rfl) ?_
        refine lv_istore (lv' := [(4, .int (zI (x1 : Int))), (0, .ref mo), (1, .int (zI (x1 : Int))), (2, .int (zI (i1 : Int))), (3, .int (zI what))]) hx hb dX4_origin_40 hl (by decide) rfl (fun ls hl => ?_)
        refine lv_iload_n hx hb dX4_origin_42 rfl (lv_at hl 3 rfl) ?_
        refine lv_istore (lv' := [(5, .int (zI (i1 : Int))), (4, .int (zI (x1 : Int))), (0, .ref mo), (1, .int (zI (x1 : Int))), (2, .int (zI (i1 : Int))), (3, .int (zI what))]) hx hb dX4_origin_43 hl (by decide) rfl (fun ls hl => ?_)
        refine lv_aload_n hx hb dX4_origin_45 rfl (lv_at hl 2 rfl) ?_
        refine lv_iload hx hb dX4_origin_46 (lv_at hl 1 rfl) ?_
        refine lv_iload hx hb dX4_origin_48 (lv_at hl 0 rfl) ?_
        refine m_ci (va_runV (As := [.int (zI (x1 : Int)), .int (zI (i1 : Int))]) (rest := []) ⟨hx, hb, hml, hown, hts⟩ (metX4_comesFrom (t := x1) (i := i1) hX.o hA.w (by omega) (by omega)) (cwV 2 hts (lw_V q3571 q3573 qs61 q102 q3574) rfl rfl rfl (by decide +kernel) ⟨Nat.le_of_ble_eq_true rfl, Nat.le_of_ble_eq_true rfl⟩) (m_preV hG) rfl rfl hl.1 rfl (lv_room (Nat.le_of_ble_eq_true rfl)) dX4_origin_50 ⟨Nat.le_of_ble_eq_true rfl, Nat.le_of_ble_eq_true rfl⟩) hG (fun r_9 S_10 H locs hp hG => ?_)
        obtain ⟨rfl, rfl⟩ := hp
        have hG : mW X mo ad S s H locs := hG
        refine lv_istore (lv' := [(6, .int (zI (oI (cmF (aWd a) x1 i1)))), (5, .int (zI (i1 : Int))), (4, .int (zI (x1 : Int))), (0, .ref mo), (1, .int (zI (x1 : Int))), (2, .int (zI (i1 : Int))), (3, .int (zI what))]) hx hb dX4_origin_53 hl (by decide) rfl (fun ls hl => ?_)
        refine g_loop (fun mz H locs ls => ∃ (r i2 fu : Nat), (r < wN (aWd a) ∧ i2 < 1000 ∧ orgF (aWd a) (x1 + 1) x1 i1 = orgF (aWd a) (fu + 1) r i2 ∧ r ≤ fu ∧ mz = r) ∧ mW X mo ad S s H locs ∧ lv_has ls 7 [(0, .ref mo), (1, .int (zI (x1 : Int))), (2, .int (zI (i1 : Int))), (3, .int (zI what)), (4, .int (zI (r : Int))), (5, .int (zI (i2 : Int))), (6, .int (zI (oI (cmF (aWd a) r i2))))]) x1 ⟨x1, i1, x1, ⟨by omega, by omega, rfl, Nat.le_refl _, rfl⟩, hG, (lv_sub hl [3, 4, 5, 6, 2, 1, 0] rfl)⟩ (fun mz ihA H locs ls hI => ?_)
        obtain ⟨r, i2, fu, ⟨hrN, hi2, hof, hfu, hmz⟩, hG, hl⟩ := hI
        refine lv_iload hx hb dX4_origin_55 (lv_at hl 6 rfl) ?_
        refine lv_iconst (v := zI (-1)) hx hb dX4_origin_57 (by decide +kernel) ?_
        refine g_ceq (tgt := 87) hx hb dX4_origin_58 (by decide) (by have q := oI_R (cmF (aWd a) r i2) (fun z hz => by obtain ⟨f, hf, hjf⟩ := cmF_lt hz; have := hA.w.fo r f hf; have := (hA.w.tx (r := f) (by omega)).1; omega); omega) (fun h6 => ?_) (fun h6 => ?_)
        · refine lv_iload_n hx hb dX4_origin_87 rfl (lv_at hl 3 rfl) ?_
          refine g_ne (tgt := 96) hx hb dX4_origin_88 (by decide) (by omega) (fun h9 => ?_) (fun h9 => ?_)
          · refine lv_iload hx hb dX4_origin_96 (lv_at hl 5 rfl) ?_
            exact m_iret hx hb hr hlocks hG (mX.cast (by unfold opOrigin aLn; simp only [Int.toNat_natCast]; (repeat (first | rw [if_pos (by omega)] | rw [if_neg (by omega)])); rw [hof, orgF_S, oI_m1.mp h6]) hX) ⟨Nat.le_of_ble_eq_true rfl, Nat.le_of_ble_eq_true rfl⟩ dX4_origin_98
          · refine lv_iload hx hb dX4_origin_91 (lv_at hl 4 rfl) ?_
            refine lv_goto (tgt := 98) hx hb dX4_origin_93 (by decide) ?_
            exact m_iret hx hb hr hlocks hG (mX.cast (by unfold opOrigin aLn; simp only [Int.toNat_natCast]; (repeat (first | rw [if_pos (by omega)] | rw [if_neg (by omega)])); rw [hof, orgF_S, oI_m1.mp h6]) hX) ⟨Nat.le_of_ble_eq_true rfl, Nat.le_of_ble_eq_true rfl⟩ dX4_origin_98
        · obtain ⟨j, hj⟩ : ∃ j, cmF (aWd a) r i2 = some j := by cases hq : cmF (aWd a) r i2 with
        | none => exact absurd (oI_m1.mpr hq) h6
        | some j => exact ⟨j, rfl⟩
          obtain ⟨f, hf, hjf⟩ := cmF_lt hj
          have hfr := hA.w.fo r f hf
          have hlf := (hA.w.tx (r := f) (by omega)).1
          have hl : lv_has ls 7 [(0, .ref mo), (1, .int (zI (x1 : Int))), (2, .int (zI (i1 : Int))), (3, .int (zI what)), (4, .int (zI (r : Int))), (5, .int (zI (i2 : Int))), (6, .int (zI (j : Int)))] := by rw [hj, oI_some] at hl; exact hl
          refine lv_iload hx hb dX4_origin_61 (lv_at hl 6 rfl) ?_
          refine lv_istore (lv' := [(5, .int (zI (j : Int))), (0, .ref mo), (1, .int (zI (x1 : Int))), (2, .int (zI (i1 : Int))), (3, .int (zI what)), (4, .int (zI (r : Int))), (6, .int (zI (j : Int)))]) hx hb dX4_origin_63 hl (by decide) rfl (fun ls hl => ?_)
          refine lv_aload_n hx hb dX4_origin_65 rfl (lv_at hl 1 rfl) ?_
          refine m_get 1 (by decide) (v := .ref (ad 1)) rfl hx hb hts hown hG (hts _ q3297) dX4_origin_66 ?_
          refine lv_iload hx hb dX4_origin_69 (lv_at hl 5 rfl) ?_
          refine m_iald 1 rfl rfl (by decide) r (v := (f : Int)) ⟨by omega, by show _ < 16; omega⟩ ((hX.o.fo (r := r) (by omega)).trans (by rw [hf]; rfl)) hx hb hG dX4_origin_71 ?_
          refine lv_istore (lv' := [(4, .int (zI (f : Int))), (5, .int (zI (j : Int))), (0, .ref mo), (1, .int (zI (x1 : Int))), (2, .int (zI (i1 : Int))), (3, .int (zI what)), (6, .int (zI (j : Int)))]) hx hb dX4_origin_72 hl (by decide) rfl (fun ls hl => ?_)
          refine lv_aload_n hx hb dX4_origin_74 rfl (lv_at hl 2 rfl) ?_
          refine lv_iload hx hb dX4_origin_75 (lv_at hl 0 rfl) ?_
          refine lv_iload hx hb dX4_origin_77 (lv_at hl 1 rfl) ?_
          refine m_ci (va_runV (As := [.int (zI (f : Int)), .int (zI (j : Int))]) (rest := []) ⟨hx, hb, hml, hown, hts⟩ (metX4_comesFrom (t := f) (i := j) hX.o hA.w (by omega) (by omega)) (cwV 2 hts (lw_V q3571 q3573 qs61 q102 q3574) rfl rfl rfl (by decide +kernel) ⟨Nat.le_of_ble_eq_true rfl, Nat.le_of_ble_eq_true rfl⟩) (m_preV hG) rfl rfl hl.1 rfl (lv_room (Nat.le_of_ble_eq_true rfl)) dX4_origin_79 ⟨Nat.le_of_ble_eq_true rfl, Nat.le_of_ble_eq_true rfl⟩) hG (fun r_11 S_12 H locs hp hG => ?_)
          obtain ⟨rfl, rfl⟩ := hp
          have hG : mW X mo ad S s H locs := hG
          refine lv_istore (lv' := [(6, .int (zI (oI (cmF (aWd a) f j)))), (4, .int (zI (f : Int))), (5, .int (zI (j : Int))), (0, .ref mo), (1, .int (zI (x1 : Int))), (2, .int (zI (i1 : Int))), (3, .int (zI what))]) hx hb dX4_origin_82 hl (by decide) rfl (fun ls hl => ?_)
          refine lv_goto (tgt := 55) hx hb dX4_origin_84 (by decide) ?_
          exact ihA f (by omega) H locs ls ⟨f, j, (fu - 1), ⟨by omega, by omega, by rw [hof, orgF_S, hj]; show orgF (aWd a) fu ((wFo (aWd a) r).getD 0) j = _; rw [hf]; show orgF (aWd a) fu f j = _; rw [show fu - 1 + 1 = fu by omega], by omega, rfl⟩, hG, (lv_sub hl [3, 4, 5, 6, 1, 2, 0] rfl)⟩
      · refine lv_aload_n hx hb dX4_origin_32 rfl (lv_at hl 0 rfl) ?_
        refine lv_bipush (v := zI (-5)) hx hb dX4_origin_33 (by decide +kernel) ?_
        refine g_topz (y := -((5 : Nat) : Int)) (by decide) ?_
        refine m_ci (va_runV (As := [.int (zI (-((5 : Nat) : Int)))]) (rest := []) ⟨hx, hb, hml, hown, hts⟩ (metX4_no 5 (by decide)) (cwV 1 hts (lw_V q3427 q3429 qs43 q102 q3430) rfl rfl rfl (by decide +kernel) ⟨Nat.le_of_ble_eq_true rfl, Nat.le_of_ble_eq_true rfl⟩) (m_preV hG) rfl rfl hl.1 rfl (lv_room (Nat.le_of_ble_eq_true rfl)) dX4_origin_35 ⟨Nat.le_of_ble_eq_true rfl, Nat.le_of_ble_eq_true rfl⟩) hG (fun r_13 S_14 H locs hp hG => ?_)
        obtain ⟨rfl, rfl⟩ := hp
        have hG : mW X mo ad (mNo S 5) s H locs := hG
        exact m_iret hx hb hr hlocks hG (by first | (exfalso; omega) | exact (hX.noR 5 (by unfold opOrigin; (repeat (first | rw [if_pos (by omega)] | rw [if_neg (by omega)])); all_goals (try (unfold aLn; simp only [Int.toNat_natCast])); all_goals ((repeat (first | rw [if_pos (by omega)] | rw [if_neg (by omega)])) <;> rfl)))) ⟨Nat.le_of_ble_eq_true rfl, Nat.le_of_ble_eq_true rfl⟩ dX4_origin_38
  · refine lv_aload_n hx hb dX4_origin_8 rfl (lv_at hl 0 rfl) ?_
    refine lv_iconst (v := zI (-1)) hx hb dX4_origin_9 (by decide +kernel) ?_
    refine g_topz (y := -((1 : Nat) : Int)) (by decide) ?_
    refine m_ci (va_runV (As := [.int (zI (-((1 : Nat) : Int)))]) (rest := []) ⟨hx, hb, hml, hown, hts⟩ (metX4_no 1 (by decide)) (cwV 1 hts (lw_V q3427 q3429 qs43 q102 q3430) rfl rfl rfl (by decide +kernel) ⟨Nat.le_of_ble_eq_true rfl, Nat.le_of_ble_eq_true rfl⟩) (m_preV hG) rfl rfl hl.1 rfl (lv_room (Nat.le_of_ble_eq_true rfl)) dX4_origin_10 ⟨Nat.le_of_ble_eq_true rfl, Nat.le_of_ble_eq_true rfl⟩) hG (fun r_15 S_16 H locs hp hG => ?_)
    obtain ⟨rfl, rfl⟩ := hp
    have hG : mW X mo ad (mNo S 1) s H locs := hG
    exact m_iret hx hb hr hlocks hG (by first | (exfalso; omega) | exact (hX.noR 1 (by unfold opOrigin; all_goals ((repeat (first | rw [if_pos (by omega)] | rw [if_neg (by omega)])) <;> rfl)))) ⟨Nat.le_of_ble_eq_true rfl, Nat.le_of_ble_eq_true rfl⟩ dX4_origin_13

set_option maxHeartbeats 4000000 in
theorem metX4_newRemark {l : Launch} {X : gX} {mo : Nat} {ad : Nat → Nat} {S : mS} {w : aW} {rm : Rm} (hO : mO S w) (hK : wOK w) (hM : wM w < 16) : Met l yX4_newRemark (ws_ yX4_newRemark cX4_newRemark 7 (some FieldType.int)) ({ frames := 0, cells := 0, slots := 0, locals := 0 }) (mP X mo ad S [.ref mo, .int (zI (rKind rm : Int)), .int (zI (rBy rm : Int)), .int (zI (rOn rm : Int)), .int (zI (rP rm : Int)), .int (zI (rQ rm : Int)), .int (zI (oI (rAns rm)))]) (mQi X mo ad (fun u T => u = zI (wM w : Nat) ∧ mO T (wMake w rm) ∧ ∀ k, k < 25 → (k ≠ 5 → T.1 k = S.1 k) ∧ (k ≠ 6 → T.2.1 k = S.2.1 k) ∧ T.2.2 k = S.2.2 k)) 0 0 (mA mo ad) := by
  refine Met.m (by decide) (Nat.le_of_ble_eq_true rfl) ?_
  intro p e s m below meth c ls hx hb hr hts hown hlocks hml hG hl
  have hl : lv_has ls 7 [(0, .ref mo), (1, .int (zI (rKind rm : Int))), (2, .int (zI (rBy rm : Int))), (3, .int (zI (rOn rm : Int))), (4, .int (zI (rP rm : Int))), (5, .int (zI (rQ rm : Int))), (6, .int (zI (oI (rAns rm))))] := hl
  have hNN := hK.n
  have hMM := hK.m
  refine lv_aload_n hx hb dX4_newRemark_0 rfl (lv_at hl 0 rfl) ?_
  refine m_get 6 (by decide) (v := .ref (ad 6)) rfl hx hb hts hown hG (hts _ q3302) dX4_newRemark_1 ?_
  refine lv_aload_n hx hb dX4_newRemark_4 rfl (lv_at hl 0 rfl) ?_
  refine m_get 5 (by decide) (v := .int (zI (wM w : Int))) (congrArg (fun z => Value.int (zI z)) (show S.1 5 = (wM w : Int) from hO.m)) hx hb hts hown hG (hts _ q3301) dX4_newRemark_5 ?_
  refine lv_iload_n hx hb dX4_newRemark_8 rfl (lv_at hl 1 rfl) ?_
  refine m_iast 6 rfl rfl (by decide) (wM w) ⟨by omega, by show _ < 112; omega⟩ hx hb hG dX4_newRemark_9 (fun H locs (hG : mW X mo ad (sA S 6 (wM w) (rKind rm : Int)) s H locs) => ?_)
  refine lv_aload_n hx hb dX4_newRemark_10 rfl (lv_at hl 0 rfl) ?_
  refine m_get 6 (by decide) (v := .ref (ad 6)) rfl hx hb hts hown hG (hts _ q3302) dX4_newRemark_11 ?_
  refine lv_bipush (v := zI 16) hx hb dX4_newRemark_14 (by decide +kernel) ?_
  refine lv_aload_n hx hb dX4_newRemark_16 rfl (lv_at hl 0 rfl) ?_
  refine m_get 5 (by decide) (v := .int (zI (wM w : Int))) (congrArg (fun z => Value.int (zI z)) (show (sA S 6 (wM w) (rKind rm : Int)).1 5 = (wM w : Int) from hO.m)) hx hb hts hown hG (hts _ q3301) dX4_newRemark_17 ?_
  refine g_iadd hx hb dX4_newRemark_20 ?_
  refine lv_iload_n hx hb dX4_newRemark_21 rfl (lv_at hl 2 rfl) ?_
  refine m_iast 6 rfl rfl (by decide) (16 + (wM w)) ⟨by omega, by show _ < 112; omega⟩ hx hb hG dX4_newRemark_22 (fun H locs (hG : mW X mo ad (sA (sA S 6 (wM w) (rKind rm : Int)) 6 (16 + (wM w)) (rBy rm : Int)) s H locs) => ?_)
  refine lv_aload_n hx hb dX4_newRemark_23 rfl (lv_at hl 0 rfl) ?_
  refine m_get 6 (by decide) (v := .ref (ad 6)) rfl hx hb hts hown hG (hts _ q3302) dX4_newRemark_24 ?_
  refine lv_bipush (v := zI 32) hx hb dX4_newRemark_27 (by decide +kernel) ?_
  refine lv_aload_n hx hb dX4_newRemark_29 rfl (lv_at hl 0 rfl) ?_
  refine m_get 5 (by decide) (v := .int (zI (wM w : Int))) (congrArg (fun z => Value.int (zI z)) (show (sA (sA S 6 (wM w) (rKind rm : Int)) 6 (16 + (wM w)) (rBy rm : Int)).1 5 = (wM w : Int) from hO.m)) hx hb hts hown hG (hts _ q3301) dX4_newRemark_30 ?_
  refine g_iadd hx hb dX4_newRemark_33 ?_
  refine lv_iload_n hx hb dX4_newRemark_34 rfl (lv_at hl 3 rfl) ?_
  refine m_iast 6 rfl rfl (by decide) (32 + (wM w)) ⟨by omega, by show _ < 112; omega⟩ hx hb hG dX4_newRemark_35 (fun H locs (hG : mW X mo ad (sA (sA (sA S 6 (wM w) (rKind rm : Int)) 6 (16 + (wM w)) (rBy rm : Int)) 6 (32 + (wM w)) (rOn rm : Int)) s H locs) => ?_)
  refine lv_aload_n hx hb dX4_newRemark_36 rfl (lv_at hl 0 rfl) ?_
  refine m_get 6 (by decide) (v := .ref (ad 6)) rfl hx hb hts hown hG (hts _ q3302) dX4_newRemark_37 ?_
  refine lv_bipush (v := zI 48) hx hb dX4_newRemark_40 (by decide +kernel) ?_
  refine lv_aload_n hx hb dX4_newRemark_42 rfl (lv_at hl 0 rfl) ?_
  refine m_get 5 (by decide) (v := .int (zI (wM w : Int))) (congrArg (fun z => Value.int (zI z)) (show (sA (sA (sA S 6 (wM w) (rKind rm : Int)) 6 (16 + (wM w)) (rBy rm : Int)) 6 (32 + (wM w)) (rOn rm : Int)).1 5 = (wM w : Int) from hO.m)) hx hb hts hown hG (hts _ q3301) dX4_newRemark_43 ?_
  refine g_iadd hx hb dX4_newRemark_46 ?_
  refine lv_iload hx hb dX4_newRemark_47 (lv_at hl 4 rfl) ?_
  refine m_iast 6 rfl rfl (by decide) (48 + (wM w)) ⟨by omega, by show _ < 112; omega⟩ hx hb hG dX4_newRemark_49 (fun H locs (hG : mW X mo ad (sA (sA (sA (sA S 6 (wM w) (rKind rm : Int)) 6 (16 + (wM w)) (rBy rm : Int)) 6 (32 + (wM w)) (rOn rm : Int)) 6 (48 + (wM w)) (rP rm : Int)) s H locs) => ?_)
  refine lv_aload_n hx hb dX4_newRemark_50 rfl (lv_at hl 0 rfl) ?_
  refine m_get 6 (by decide) (v := .ref (ad 6)) rfl hx hb hts hown hG (hts _ q3302) dX4_newRemark_51 ?_
  refine lv_bipush (v := zI 64) hx hb dX4_newRemark_54 (by decide +kernel) ?_
  refine lv_aload_n hx hb dX4_newRemark_56 rfl (lv_at hl 0 rfl) ?_
  refine m_get 5 (by decide) (v := .int (zI (wM w : Int))) (congrArg (fun z => Value.int (zI z)) (show (sA (sA (sA (sA S 6 (wM w) (rKind rm : Int)) 6 (16 + (wM w)) (rBy rm : Int)) 6 (32 + (wM w)) (rOn rm : Int)) 6 (48 + (wM w)) (rP rm : Int)).1 5 = (wM w : Int) from hO.m)) hx hb hts hown hG (hts _ q3301) dX4_newRemark_57 ?_
  refine g_iadd hx hb dX4_newRemark_60 ?_
  refine lv_iload hx hb dX4_newRemark_61 (lv_at hl 5 rfl) ?_
  refine m_iast 6 rfl rfl (by decide) (64 + (wM w)) ⟨by omega, by show _ < 112; omega⟩ hx hb hG dX4_newRemark_63 (fun H locs (hG : mW X mo ad (sA (sA (sA (sA (sA S 6 (wM w) (rKind rm : Int)) 6 (16 + (wM w)) (rBy rm : Int)) 6 (32 + (wM w)) (rOn rm : Int)) 6 (48 + (wM w)) (rP rm : Int)) 6 (64 + (wM w)) (rQ rm : Int)) s H locs) => ?_)
  refine lv_aload_n hx hb dX4_newRemark_64 rfl (lv_at hl 0 rfl) ?_
  refine m_get 6 (by decide) (v := .ref (ad 6)) rfl hx hb hts hown hG (hts _ q3302) dX4_newRemark_65 ?_
  refine lv_bipush (v := zI 80) hx hb dX4_newRemark_68 (by decide +kernel) ?_
  refine lv_aload_n hx hb dX4_newRemark_70 rfl (lv_at hl 0 rfl) ?_
  refine m_get 5 (by decide) (v := .int (zI (wM w : Int))) (congrArg (fun z => Value.int (zI z)) (show (sA (sA (sA (sA (sA S 6 (wM w) (rKind rm : Int)) 6 (16 + (wM w)) (rBy rm : Int)) 6 (32 + (wM w)) (rOn rm : Int)) 6 (48 + (wM w)) (rP rm : Int)) 6 (64 + (wM w)) (rQ rm : Int)).1 5 = (wM w : Int) from hO.m)) hx hb hts hown hG (hts _ q3301) dX4_newRemark_71 ?_
  refine g_iadd hx hb dX4_newRemark_74 ?_
  refine lv_iload hx hb dX4_newRemark_75 (lv_at hl 6 rfl) ?_
  refine m_iast 6 rfl rfl (by decide) (80 + (wM w)) ⟨by omega, by show _ < 112; omega⟩ hx hb hG dX4_newRemark_77 (fun H locs (hG : mW X mo ad (sA (sA (sA (sA (sA (sA S 6 (wM w) (rKind rm : Int)) 6 (16 + (wM w)) (rBy rm : Int)) 6 (32 + (wM w)) (rOn rm : Int)) 6 (48 + (wM w)) (rP rm : Int)) 6 (64 + (wM w)) (rQ rm : Int)) 6 (80 + (wM w)) (oI (rAns rm))) s H locs) => ?_)
  refine lv_aload_n hx hb dX4_newRemark_78 rfl (lv_at hl 0 rfl) ?_
  refine m_get 6 (by decide) (v := .ref (ad 6)) rfl hx hb hts hown hG (hts _ q3302) dX4_newRemark_79 ?_
  refine lv_bipush (v := zI 96) hx hb dX4_newRemark_82 (by decide +kernel) ?_
  refine lv_aload_n hx hb dX4_newRemark_84 rfl (lv_at hl 0 rfl) ?_
  refine m_get 5 (by decide) (v := .int (zI (wM w : Int))) (congrArg (fun z => Value.int (zI z)) (show (sA (sA (sA (sA (sA (sA S 6 (wM w) (rKind rm : Int)) 6 (16 + (wM w)) (rBy rm : Int)) 6 (32 + (wM w)) (rOn rm : Int)) 6 (48 + (wM w)) (rP rm : Int)) 6 (64 + (wM w)) (rQ rm : Int)) 6 (80 + (wM w)) (oI (rAns rm))).1 5 = (wM w : Int) from hO.m)) hx hb hts hown hG (hts _ q3301) dX4_newRemark_85 ?_
  refine g_iadd hx hb dX4_newRemark_88 ?_
  refine lv_iconst (v := zI 0) hx hb dX4_newRemark_89 (by decide +kernel) ?_
  refine m_iast 6 rfl rfl (by decide) (96 + (wM w)) ⟨by omega, by show _ < 112; omega⟩ hx hb hG dX4_newRemark_90 (fun H locs (hG : mW X mo ad (sA (sA (sA (sA (sA (sA (sA S 6 (wM w) (rKind rm : Int)) 6 (16 + (wM w)) (rBy rm : Int)) 6 (32 + (wM w)) (rOn rm : Int)) 6 (48 + (wM w)) (rP rm : Int)) 6 (64 + (wM w)) (rQ rm : Int)) 6 (80 + (wM w)) (oI (rAns rm))) 6 (96 + (wM w)) 0) s H locs) => ?_)
  refine lv_aload_n hx hb dX4_newRemark_91 rfl (lv_at hl 0 rfl) ?_
  refine lv_dup hx hb dX4_newRemark_92 rfl ?_
  refine m_get 5 (by decide) (v := .int (zI (wM w : Int))) (congrArg (fun z => Value.int (zI z)) (show (sA (sA (sA (sA (sA (sA (sA S 6 (wM w) (rKind rm : Int)) 6 (16 + (wM w)) (rBy rm : Int)) 6 (32 + (wM w)) (rOn rm : Int)) 6 (48 + (wM w)) (rP rm : Int)) 6 (64 + (wM w)) (rQ rm : Int)) 6 (80 + (wM w)) (oI (rAns rm))) 6 (96 + (wM w)) 0).1 5 = (wM w : Int) from hO.m)) hx hb hts hown hG (hts _ q3301) dX4_newRemark_93 ?_
  refine lv_dup_x1 hx hb dX4_newRemark_96 rfl rfl ?_
  refine lv_iconst (v := zI 1) hx hb dX4_newRemark_97 (by decide +kernel) ?_
  refine g_iadd hx hb dX4_newRemark_98 ?_
  refine m_put 5 (by decide) rfl rfl (tyX4_ok 5 (by decide)) rfl rfl hx hb hts hown hG (hts _ q3301) dX4_newRemark_99 (fun H locs (hG : mW X mo ad (sI (sA (sA (sA (sA (sA (sA (sA S 6 (wM w) (rKind rm : Int)) 6 (16 + (wM w)) (rBy rm : Int)) 6 (32 + (wM w)) (rOn rm : Int)) 6 (48 + (wM w)) (rP rm : Int)) 6 (64 + (wM w)) (rQ rm : Int)) 6 (80 + (wM w)) (oI (rAns rm))) 6 (96 + (wM w)) 0) 5 ((wM w : Int) + 1)) s H locs) => ?_)
  exact m_iret hx hb hr hlocks hG (by first | (exfalso; omega) | exact (by refine ⟨rfl, hO.tk (w' := wMake w rm) (fun k hk => ⟨fun q => sI_n q, fun q => (by simp only [sI_a, sA_o q]), rfl⟩) rfl rfl rfl (hO.2.2.2.1.make hM (fun x => by simp only [sI_a, sA_e, Nat.add_comm])), fun k hk => ⟨fun q => sI_n q, fun q => (by simp only [sI_a, sA_o q]), rfl⟩⟩)) ⟨Nat.le_of_ble_eq_true rfl, Nat.le_of_ble_eq_true rfl⟩ dX4_newRemark_102

set_option maxHeartbeats 4000000 in
theorem metX4_remark {l : Launch} {X : gX} {mo : Nat} {ad : Nat → Nat} {S : mS} {a : aS} (hX : mX S a) (hA : aOK a) {kind k x i j ans : Int} (hr0 : -2147483648 ≤ kind ∧ kind < 2147483648 ∧ -2147483648 ≤ k ∧ k < 2147483648 ∧ -2147483648 ≤ x ∧ x < 2147483648 ∧ -2147483648 ≤ i ∧ i < 2147483648 ∧ -2147483648 ≤ j ∧ j < 2147483648 ∧ -2147483648 ≤ ans ∧ ans < 2147483648) : Met l yX4_remark (ws_ yX4_remark cX4_remark 7 (some FieldType.int)) ({ frames := 2, cells := 0, slots := 0, locals := 44 }) (mP X mo ad S [.ref mo, .int (zI kind), .int (zI k), .int (zI x), .int (zI i), .int (zI j), .int (zI ans)]) (mQi X mo ad (fun u T => u = zI (opRemark a kind k x i j ans).1 ∧ mX T (opRemark a kind k x i j ans).2)) 0 0 (mA mo ad) := by
  refine Met.m (by decide) (Nat.le_of_ble_eq_true rfl) ?_
  intro p e s m below meth c ls hx hb hr hts hown hlocks hml hG hl
  have hl : lv_has ls 7 [(0, .ref mo), (1, .int (zI kind)), (2, .int (zI k)), (3, .int (zI x)), (4, .int (zI i)), (5, .int (zI j)), (6, .int (zI ans))] := hl
  have hNN := hA.w.n
  have hMM := hA.w.m
  refine lv_iload_n hx hb dX4_remark_0 rfl (lv_at hl 1 rfl) ?_
  refine lv_iconst (v := zI 0) hx hb dX4_remark_1 (by decide +kernel) ?_
  refine lv_bipush (v := zI 6) hx hb dX4_remark_2 (by decide +kernel) ?_
  refine m_ci (va_runS (As := [.int (zI kind), .int (zI 0), .int (zI 6)]) (rest := []) ⟨hx, hb, hml, hown, hts⟩ (metX4_within (by omega)) (va_cwS 3 hts (lw_S q3424 q3425 q102 q3426) rfl rfl rfl (by decide +kernel) ⟨Nat.le_of_ble_eq_true rfl, Nat.le_of_ble_eq_true rfl⟩) (m_preS hG) rfl rfl hl.1 rfl (lv_room (Nat.le_of_ble_eq_true rfl)) dX4_remark_4 ⟨Nat.le_of_ble_eq_true rfl, Nat.le_of_ble_eq_true rfl⟩) hG (fun r_1 S_2 H locs hp hG => ?_)
  obtain ⟨bw1, rfl, hbw1, rfl⟩ := hp
  have hG : mW X mo ad S s H locs := hG
  refine g_eq (tgt := 33) hx hb dX4_remark_7 (by decide) (by omega) (fun h2 => ?_) (fun h2 => ?_)
  · refine lv_aload_n hx hb dX4_remark_33 rfl (lv_at hl 0 rfl) ?_
    refine lv_iconst (v := zI (-1)) hx hb dX4_remark_34 (by decide +kernel) ?_
    refine g_topz (y := -((1 : Nat) : Int)) (by decide) ?_
    refine m_ci (va_runV (As := [.int (zI (-((1 : Nat) : Int)))]) (rest := []) ⟨hx, hb, hml, hown, hts⟩ (metX4_no 1 (by decide)) (cwV 1 hts (lw_V q3427 q3429 qs43 q102 q3430) rfl rfl rfl (by decide +kernel) ⟨Nat.le_of_ble_eq_true rfl, Nat.le_of_ble_eq_true rfl⟩) (m_preV hG) rfl rfl hl.1 rfl (lv_room (Nat.le_of_ble_eq_true rfl)) dX4_remark_35 ⟨Nat.le_of_ble_eq_true rfl, Nat.le_of_ble_eq_true rfl⟩) hG (fun r_3 S_4 H locs hp hG => ?_)
    obtain ⟨rfl, rfl⟩ := hp
    have hG : mW X mo ad (mNo S 1) s H locs := hG
    exact m_iret hx hb hr hlocks hG (by first | (exfalso; omega) | exact (hX.noR 1 (by unfold opRemark; all_goals ((repeat (first | rw [if_pos (by omega)] | rw [if_neg (by omega)])) <;> rfl)))) ⟨Nat.le_of_ble_eq_true rfl, Nat.le_of_ble_eq_true rfl⟩ dX4_remark_38
  · refine lv_aload_n hx hb dX4_remark_10 rfl (lv_at hl 0 rfl) ?_
    refine lv_iload_n hx hb dX4_remark_11 rfl (lv_at hl 3 rfl) ?_
    have hq3 := hX.o.n
    have hQ3 := hA.w.n
    refine m_ci (va_runV (As := [.int (zI x)]) (rest := []) ⟨hx, hb, hml, hown, hts⟩ (metX4_isRevision (by omega) (by omega)) (cwV 1 hts (lw_V q3481 q3483 qs48 q102 q3484) rfl rfl rfl (by decide +kernel) ⟨Nat.le_of_ble_eq_true rfl, Nat.le_of_ble_eq_true rfl⟩) (m_preV hG) rfl rfl hl.1 rfl (lv_room (Nat.le_of_ble_eq_true rfl)) dX4_remark_12 ⟨Nat.le_of_ble_eq_true rfl, Nat.le_of_ble_eq_true rfl⟩) hG (fun r_5 S_6 H locs hp hG => ?_)
    obtain ⟨b3, rfl, hb3, rfl⟩ := hp
    have hG : mW X mo ad S s H locs := hG
    refine g_eq (tgt := 33) hx hb dX4_remark_15 (by decide) (by omega) (fun h4 => ?_) (fun h4 => ?_)
    · refine lv_aload_n hx hb dX4_remark_33 rfl (lv_at hl 0 rfl) ?_
      refine lv_iconst (v := zI (-1)) hx hb dX4_remark_34 (by decide +kernel) ?_
      refine g_topz (y := -((1 : Nat) : Int)) (by decide) ?_
      refine m_ci (va_runV (As := [.int (zI (-((1 : Nat) : Int)))]) (rest := []) ⟨hx, hb, hml, hown, hts⟩ (metX4_no 1 (by decide)) (cwV 1 hts (lw_V q3427 q3429 qs43 q102 q3430) rfl rfl rfl (by decide +kernel) ⟨Nat.le_of_ble_eq_true rfl, Nat.le_of_ble_eq_true rfl⟩) (m_preV hG) rfl rfl hl.1 rfl (lv_room (Nat.le_of_ble_eq_true rfl)) dX4_remark_35 ⟨Nat.le_of_ble_eq_true rfl, Nat.le_of_ble_eq_true rfl⟩) hG (fun r_7 S_8 H locs hp hG => ?_)
      obtain ⟨rfl, rfl⟩ := hp
      have hG : mW X mo ad (mNo S 1) s H locs := hG
      exact m_iret hx hb hr hlocks hG (by first | (exfalso; omega) | exact (hX.noR 1 (by unfold opRemark; all_goals ((repeat (first | rw [if_pos (by omega)] | rw [if_neg (by omega)])) <;> rfl)))) ⟨Nat.le_of_ble_eq_true rfl, Nat.le_of_ble_eq_true rfl⟩ dX4_remark_38
    · refine lv_iload hx hb dX4_remark_18 (lv_at hl 6 rfl) ?_
      refine lv_iconst (v := zI (-1)) hx hb dX4_remark_20 (by decide +kernel) ?_
      refine g_ceq (tgt := 39) hx hb dX4_remark_21 (by decide) (by omega) (fun h5 => ?_) (fun h5 => ?_)
      · obtain ⟨x1, rfl⟩ : ∃ n9 : Nat, x = n9 := ⟨x.toNat, by omega⟩
        refine lv_aload_n hx hb dX4_remark_39 rfl (lv_at hl 0 rfl) ?_
        refine lv_iload_n hx hb dX4_remark_40 rfl (lv_at hl 3 rfl) ?_
        refine lv_iload hx hb dX4_remark_41 (lv_at hl 4 rfl) ?_
        have hq6 := hX.o.len (r := x1) (by omega)
        have hQ6 := (hA.w.tx (r := x1) (by omega)).1
        refine m_ci (va_runV (As := [.int (zI (x1 : Int)), .int (zI i)]) (rest := []) ⟨hx, hb, hml, hown, hts⟩ (metX4_isLine (r := x1) (by omega) ⟨by omega, by omega, by omega⟩) (cwV 2 hts (lw_V q3534 q3536 qs58 q102 q3537) rfl rfl rfl (by decide +kernel) ⟨Nat.le_of_ble_eq_true rfl, Nat.le_of_ble_eq_true rfl⟩) (m_preV hG) rfl rfl hl.1 rfl (lv_room (Nat.le_of_ble_eq_true rfl)) dX4_remark_43 ⟨Nat.le_of_ble_eq_true rfl, Nat.le_of_ble_eq_true rfl⟩) hG (fun r_9 S_10 H locs hp hG => ?_)
        obtain ⟨b6, rfl, hb6, rfl⟩ := hp
        have hG : mW X mo ad S s H locs := hG
        rw [hq6] at hb6
        refine g_eq (tgt := 66) hx hb dX4_remark_46 (by decide) (by omega) (fun h7 => ?_) (fun h7 => ?_)
        · refine lv_aload_n hx hb dX4_remark_66 rfl (lv_at hl 0 rfl) ?_
          refine lv_bipush (v := zI (-5)) hx hb dX4_remark_67 (by decide +kernel) ?_
          refine g_topz (y := -((5 : Nat) : Int)) (by decide) ?_
          refine m_ci (va_runV (As := [.int (zI (-((5 : Nat) : Int)))]) (rest := []) ⟨hx, hb, hml, hown, hts⟩ (metX4_no 5 (by decide)) (cwV 1 hts (lw_V q3427 q3429 qs43 q102 q3430) rfl rfl rfl (by decide +kernel) ⟨Nat.le_of_ble_eq_true rfl, Nat.le_of_ble_eq_true rfl⟩) (m_preV hG) rfl rfl hl.1 rfl (lv_room (Nat.le_of_ble_eq_true rfl)) dX4_remark_69 ⟨Nat.le_of_ble_eq_true rfl, Nat.le_of_ble_eq_true rfl⟩) hG (fun r_11 S_12 H locs hp hG => ?_)
          obtain ⟨rfl, rfl⟩ := hp
          have hG : mW X mo ad (mNo S 5) s H locs := hG
          exact m_iret hx hb hr hlocks hG (by first | (exfalso; omega) | exact (hX.noR 5 (by unfold opRemark; (repeat (first | rw [if_pos (by omega)] | rw [if_neg (by omega)])); all_goals (try (unfold aLn; simp only [Int.toNat_natCast])); all_goals ((repeat (first | rw [if_pos (by omega)] | rw [if_neg (by omega)])) <;> rfl)))) ⟨Nat.le_of_ble_eq_true rfl, Nat.le_of_ble_eq_true rfl⟩ dX4_remark_72
        · refine lv_aload_n hx hb dX4_remark_49 rfl (lv_at hl 0 rfl) ?_
          refine lv_iload_n hx hb dX4_remark_50 rfl (lv_at hl 3 rfl) ?_
          refine lv_iload hx hb dX4_remark_51 (lv_at hl 5 rfl) ?_
          have hq8 := hX.o.len (r := x1) (by omega)
          have hQ8 := (hA.w.tx (r := x1) (by omega)).1
          refine m_ci (va_runV (As := [.int (zI (x1 : Int)), .int (zI j)]) (rest := []) ⟨hx, hb, hml, hown, hts⟩ (metX4_isLine (r := x1) (by omega) ⟨by omega, by omega, by omega⟩) (cwV 2 hts (lw_V q3534 q3536 qs58 q102 q3537) rfl rfl rfl (by decide +kernel) ⟨Nat.le_of_ble_eq_true rfl, Nat.le_of_ble_eq_true rfl⟩) (m_preV hG) rfl rfl hl.1 rfl (lv_room (Nat.le_of_ble_eq_true rfl)) dX4_remark_53 ⟨Nat.le_of_ble_eq_true rfl, Nat.le_of_ble_eq_true rfl⟩) hG (fun r_13 S_14 H locs hp hG => ?_)
          obtain ⟨b8, rfl, hb8, rfl⟩ := hp
          have hG : mW X mo ad S s H locs := hG
          rw [hq8] at hb8
          refine g_eq (tgt := 66) hx hb dX4_remark_56 (by decide) (by omega) (fun h9 => ?_) (fun h9 => ?_)
          · refine lv_aload_n hx hb dX4_remark_66 rfl (lv_at hl 0 rfl) ?_
            refine lv_bipush (v := zI (-5)) hx hb dX4_remark_67 (by decide +kernel) ?_
            refine g_topz (y := -((5 : Nat) : Int)) (by decide) ?_
            refine m_ci (va_runV (As := [.int (zI (-((5 : Nat) : Int)))]) (rest := []) ⟨hx, hb, hml, hown, hts⟩ (metX4_no 5 (by decide)) (cwV 1 hts (lw_V q3427 q3429 qs43 q102 q3430) rfl rfl rfl (by decide +kernel) ⟨Nat.le_of_ble_eq_true rfl, Nat.le_of_ble_eq_true rfl⟩) (m_preV hG) rfl rfl hl.1 rfl (lv_room (Nat.le_of_ble_eq_true rfl)) dX4_remark_69 ⟨Nat.le_of_ble_eq_true rfl, Nat.le_of_ble_eq_true rfl⟩) hG (fun r_15 S_16 H locs hp hG => ?_)
            obtain ⟨rfl, rfl⟩ := hp
            have hG : mW X mo ad (mNo S 5) s H locs := hG
            exact m_iret hx hb hr hlocks hG (by first | (exfalso; omega) | exact (hX.noR 5 (by unfold opRemark; (repeat (first | rw [if_pos (by omega)] | rw [if_neg (by omega)])); all_goals (try (unfold aLn; simp only [Int.toNat_natCast])); all_goals ((repeat (first | rw [if_pos (by omega)] | rw [if_neg (by omega)])) <;> rfl)))) ⟨Nat.le_of_ble_eq_true rfl, Nat.le_of_ble_eq_true rfl⟩ dX4_remark_72
          · refine lv_iload hx hb dX4_remark_59 (lv_at hl 5 rfl) ?_
            refine lv_iload hx hb dX4_remark_61 (lv_at hl 4 rfl) ?_
            refine g_cge (tgt := 73) hx hb dX4_remark_63 (by decide) (by omega) (fun h10 => ?_) (fun h10 => ?_)
            · refine lv_iload_n hx hb dX4_remark_73 rfl (lv_at hl 2 rfl) ?_
              refine lv_iconst (v := zI 0) hx hb dX4_remark_74 (by decide +kernel) ?_
              refine lv_bipush (v := zI 9) hx hb dX4_remark_75 (by decide +kernel) ?_
              refine m_ci (va_runS (As := [.int (zI k), .int (zI 0), .int (zI 9)]) (rest := []) ⟨hx, hb, hml, hown, hts⟩ (metX4_within (by omega)) (va_cwS 3 hts (lw_S q3424 q3425 q102 q3426) rfl rfl rfl (by decide +kernel) ⟨Nat.le_of_ble_eq_true rfl, Nat.le_of_ble_eq_true rfl⟩) (m_preS hG) rfl rfl hl.1 rfl (lv_room (Nat.le_of_ble_eq_true rfl)) dX4_remark_77 ⟨Nat.le_of_ble_eq_true rfl, Nat.le_of_ble_eq_true rfl⟩) hG (fun r_17 S_18 H locs hp hG => ?_)
              obtain ⟨bw11, rfl, hbw11, rfl⟩ := hp
              have hG : mW X mo ad S s H locs := hG
              refine g_ne (tgt := 90) hx hb dX4_remark_80 (by decide) (by omega) (fun h12 => ?_) (fun h12 => ?_)
              · refine lv_aload_n hx hb dX4_remark_90 rfl (lv_at hl 0 rfl) ?_
                refine m_get 5 (by decide) (v := .int (zI (wM (aWd a) : Int))) (congrArg (fun z => Value.int (zI z)) (show S.1 5 = (wM (aWd a) : Int) from hX.o.m)) hx hb hts hown hG (hts _ q3301) dX4_remark_91 ?_
                refine lv_bipush (v := zI 16) hx hb dX4_remark_94 (by decide +kernel) ?_
                refine g_cne (tgt := 108) hx hb dX4_remark_96 (by decide) (by omega) (fun h13 => ?_) (fun h13 => ?_)
                · have hl : lv_has ls 7 [(0, .ref mo), (1, .int (zI (rKind (kind.toNat, k.toNat, x1, i.toNat, j.toNat, iO ans) : Int))), (2, .int (zI (rBy (kind.toNat, k.toNat, x1, i.toNat, j.toNat, iO ans) : Int))), (3, .int (zI (rOn (kind.toNat, k.toNat, x1, i.toNat, j.toNat, iO ans) : Int))), (4, .int (zI (rP (kind.toNat, k.toNat, x1, i.toNat, j.toNat, iO ans) : Int))), (5, .int (zI (rQ (kind.toNat, k.toNat, x1, i.toNat, j.toNat, iO ans) : Int))), (6, .int (zI (oI (rAns (kind.toNat, k.toNat, x1, i.toNat, j.toNat, iO ans)))))] := by rw [show ((rKind (kind.toNat, k.toNat, x1, i.toNat, j.toNat, iO ans) : Nat) : Int) = kind by (show ((kind.toNat : Nat) : Int) = kind); omega, show ((rBy (kind.toNat, k.toNat, x1, i.toNat, j.toNat, iO ans) : Nat) : Int) = k by (show ((k.toNat : Nat) : Int) = k); omega, show ((rP (kind.toNat, k.toNat, x1, i.toNat, j.toNat, iO ans) : Nat) : Int) = i by (show ((i.toNat : Nat) : Int) = i); omega, show ((rQ (kind.toNat, k.toNat, x1, i.toNat, j.toNat, iO ans) : Nat) : Int) = j by (show ((j.toNat : Nat) : Int) = j); omega, show oI (rAns (kind.toNat, k.toNat, x1, i.toNat, j.toNat, iO ans)) = ans from oI_iO (by omega)]; exact hl
                  refine lv_aload_n hx hb dX4_remark_108 rfl (lv_at hl 0 rfl) ?_
                  refine lv_iload_n hx hb dX4_remark_109 rfl (lv_at hl 1 rfl) ?_
                  refine lv_iload_n hx hb dX4_remark_110 rfl (lv_at hl 2 rfl) ?_
                  refine lv_iload_n hx hb dX4_remark_111 rfl (lv_at hl 3 rfl) ?_
                  refine lv_iload hx hb dX4_remark_112 (lv_at hl 4 rfl) ?_
                  refine lv_iload hx hb dX4_remark_114 (lv_at hl 5 rfl) ?_
                  refine lv_iload hx hb dX4_remark_116 (lv_at hl 6 rfl) ?_
                  refine m_ci (va_runV (As := [.int (zI (rKind (kind.toNat, k.toNat, x1, i.toNat, j.toNat, iO ans) : Int)), .int (zI (rBy (kind.toNat, k.toNat, x1, i.toNat, j.toNat, iO ans) : Int)), .int (zI (rOn (kind.toNat, k.toNat, x1, i.toNat, j.toNat, iO ans) : Int)), .int (zI (rP (kind.toNat, k.toNat, x1, i.toNat, j.toNat, iO ans) : Int)), .int (zI (rQ (kind.toNat, k.toNat, x1, i.toNat, j.toNat, iO ans) : Int)), .int (zI (oI (rAns (kind.toNat, k.toNat, x1, i.toNat, j.toNat, iO ans))))]) (rest := []) ⟨hx, hb, hml, hown, hts⟩ (metX4_newRemark (rm := (kind.toNat, k.toNat, x1, i.toNat, j.toNat, iO ans)) hX.o hA.w (by omega)) (cwV 6 hts (lw_V q3579 q3581 qs62 q102 q3582) rfl rfl rfl (by decide +kernel) ⟨Nat.le_of_ble_eq_true rfl, Nat.le_of_ble_eq_true rfl⟩) (m_preV hG) rfl rfl hl.1 rfl (lv_room (Nat.le_of_ble_eq_true rfl)) dX4_remark_118 ⟨Nat.le_of_ble_eq_true rfl, Nat.le_of_ble_eq_true rfl⟩) hG (fun r_19 S_20 H locs hp hG => ?_)
                  obtain ⟨rfl, hOm, htk⟩ := hp
                  have hG : mW X mo ad S_20 s H locs := hG
                  exact m_iret hx hb hr hlocks hG (by rw [show opRemark a kind k x1 i j ans = (((wM (aWd a) : Nat) : Int), aSetW a (wMake (aWd a) (kind.toNat, k.toNat, x1, i.toNat, j.toNat, iO ans))) from (by unfold opRemark; unfold aLn; simp only [Int.toNat_natCast]; all_goals ((repeat (first | rw [if_pos (by omega)] | rw [if_neg (by omega)])) <;> rfl))]; exact ⟨rfl, hX.tk hOm htk⟩) ⟨Nat.le_of_ble_eq_true rfl, Nat.le_of_ble_eq_true rfl⟩ dX4_remark_121
                · refine lv_aload_n hx hb dX4_remark_99 rfl (lv_at hl 0 rfl) ?_
                  refine lv_bipush (v := zI (-7)) hx hb dX4_remark_100 (by decide +kernel) ?_
                  refine g_topz (y := -((7 : Nat) : Int)) (by decide) ?_
                  refine m_ci (va_runV (As := [.int (zI (-((7 : Nat) : Int)))]) (rest := []) ⟨hx, hb, hml, hown, hts⟩ (metX4_no 7 (by decide)) (cwV 1 hts (lw_V q3427 q3429 qs43 q102 q3430) rfl rfl rfl (by decide +kernel) ⟨Nat.le_of_ble_eq_true rfl, Nat.le_of_ble_eq_true rfl⟩) (m_preV hG) rfl rfl hl.1 rfl (lv_room (Nat.le_of_ble_eq_true rfl)) dX4_remark_102 ⟨Nat.le_of_ble_eq_true rfl, Nat.le_of_ble_eq_true rfl⟩) hG (fun r_21 S_22 H locs hp hG => ?_)
                  obtain ⟨rfl, rfl⟩ := hp
                  have hG : mW X mo ad (mNo S 7) s H locs := hG
                  refine lv_goto (tgt := 121) hx hb dX4_remark_105 (by decide) ?_
                  exact m_iret hx hb hr hlocks hG (by first | (exfalso; omega) | exact (hX.noR 7 (by unfold opRemark; (repeat (first | rw [if_pos (by omega)] | rw [if_neg (by omega)])); all_goals (try (unfold aLn; simp only [Int.toNat_natCast])); all_goals ((repeat (first | rw [if_pos (by omega)] | rw [if_neg (by omega)])) <;> rfl)))) ⟨Nat.le_of_ble_eq_true rfl, Nat.le_of_ble_eq_true rfl⟩ dX4_remark_121
              · refine lv_aload_n hx hb dX4_remark_83 rfl (lv_at hl 0 rfl) ?_
                refine lv_bipush (v := zI (-6)) hx hb dX4_remark_84 (by decide +kernel) ?_
                refine g_topz (y := -((6 : Nat) : Int)) (by decide) ?_
                refine m_ci (va_runV (As := [.int (zI (-((6 : Nat) : Int)))]) (rest := []) ⟨hx, hb, hml, hown, hts⟩ (metX4_no 6 (by decide)) (cwV 1 hts (lw_V q3427 q3429 qs43 q102 q3430) rfl rfl rfl (by decide +kernel) ⟨Nat.le_of_ble_eq_true rfl, Nat.le_of_ble_eq_true rfl⟩) (m_preV hG) rfl rfl hl.1 rfl (lv_room (Nat.le_of_ble_eq_true rfl)) dX4_remark_86 ⟨Nat.le_of_ble_eq_true rfl, Nat.le_of_ble_eq_true rfl⟩) hG (fun r_23 S_24 H locs hp hG => ?_)
                obtain ⟨rfl, rfl⟩ := hp
                have hG : mW X mo ad (mNo S 6) s H locs := hG
                exact m_iret hx hb hr hlocks hG (by first | (exfalso; omega) | exact (hX.noR 6 (by unfold opRemark; (repeat (first | rw [if_pos (by omega)] | rw [if_neg (by omega)])); all_goals (try (unfold aLn; simp only [Int.toNat_natCast])); all_goals ((repeat (first | rw [if_pos (by omega)] | rw [if_neg (by omega)])) <;> rfl)))) ⟨Nat.le_of_ble_eq_true rfl, Nat.le_of_ble_eq_true rfl⟩ dX4_remark_89
            · refine lv_aload_n hx hb dX4_remark_66 rfl (lv_at hl 0 rfl) ?_
              refine lv_bipush (v := zI (-5)) hx hb dX4_remark_67 (by decide +kernel) ?_
              refine g_topz (y := -((5 : Nat) : Int)) (by decide) ?_
              refine m_ci (va_runV (As := [.int (zI (-((5 : Nat) : Int)))]) (rest := []) ⟨hx, hb, hml, hown, hts⟩ (metX4_no 5 (by decide)) (cwV 1 hts (lw_V q3427 q3429 qs43 q102 q3430) rfl rfl rfl (by decide +kernel) ⟨Nat.le_of_ble_eq_true rfl, Nat.le_of_ble_eq_true rfl⟩) (m_preV hG) rfl rfl hl.1 rfl (lv_room (Nat.le_of_ble_eq_true rfl)) dX4_remark_69 ⟨Nat.le_of_ble_eq_true rfl, Nat.le_of_ble_eq_true rfl⟩) hG (fun r_25 S_26 H locs hp hG => ?_)
              obtain ⟨rfl, rfl⟩ := hp
              have hG : mW X mo ad (mNo S 5) s H locs := hG
              exact m_iret hx hb hr hlocks hG (by first | (exfalso; omega) | exact (hX.noR 5 (by unfold opRemark; (repeat (first | rw [if_pos (by omega)] | rw [if_neg (by omega)])); all_goals (try (unfold aLn; simp only [Int.toNat_natCast])); all_goals ((repeat (first | rw [if_pos (by omega)] | rw [if_neg (by omega)])) <;> rfl)))) ⟨Nat.le_of_ble_eq_true rfl, Nat.le_of_ble_eq_true rfl⟩ dX4_remark_72
      · refine lv_aload_n hx hb dX4_remark_24 rfl (lv_at hl 0 rfl) ?_
        refine lv_iload hx hb dX4_remark_25 (lv_at hl 6 rfl) ?_
        have hq14 := hX.o.m
        have hQ14 := hA.w.m
        refine m_ci (va_runV (As := [.int (zI ans)]) (rest := []) ⟨hx, hb, hml, hown, hts⟩ (metX4_isRemark (by omega) (by omega)) (cwV 1 hts (lw_V q3455 q3457 qs46 q102 q3458) rfl rfl rfl (by decide +kernel) ⟨Nat.le_of_ble_eq_true rfl, Nat.le_of_ble_eq_true rfl⟩) (m_preV hG) rfl rfl hl.1 rfl (lv_room (Nat.le_of_ble_eq_true rfl)) dX4_remark_27 ⟨Nat.le_of_ble_eq_true rfl, Nat.le_of_ble_eq_true rfl⟩) hG (fun r_27 S_28 H locs hp hG => ?_)
        obtain ⟨b14, rfl, hb14, rfl⟩ := hp
        have hG : mW X mo ad S s H locs := hG
        refine g_ne (tgt := 39) hx hb dX4_remark_30 (by decide) (by omega) (fun h15 => ?_) (fun h15 => ?_)
        · obtain ⟨x1, rfl⟩ : ∃ n9 : Nat, x = n9 := ⟨x.toNat, by omega⟩
          refine lv_aload_n hx hb dX4_remark_39 rfl (lv_at hl 0 rfl) ?_
          refine lv_iload_n hx hb dX4_remark_40 rfl (lv_at hl 3 rfl) ?_
          refine lv_iload hx hb dX4_remark_41 (lv_at hl 4 rfl) ?_
          have hq16 := hX.o.len (r := x1) (by omega)
          have hQ16 := (hA.w.tx (r := x1) (by omega)).1
          refine m_ci (va_runV (As := [.int (zI (x1 : Int)), .int (zI i)]) (rest := []) ⟨hx, hb, hml, hown, hts⟩ (metX4_isLine (r := x1) (by omega) ⟨by omega, by omega, by omega⟩) (cwV 2 hts (lw_V q3534 q3536 qs58 q102 q3537) rfl rfl rfl (by decide +kernel) ⟨Nat.le_of_ble_eq_true rfl, Nat.le_of_ble_eq_true rfl⟩) (m_preV hG) rfl rfl hl.1 rfl (lv_room (Nat.le_of_ble_eq_true rfl)) dX4_remark_43 ⟨Nat.le_of_ble_eq_true rfl, Nat.le_of_ble_eq_true rfl⟩) hG (fun r_29 S_30 H locs hp hG => ?_)
          obtain ⟨b16, rfl, hb16, rfl⟩ := hp
          have hG : mW X mo ad S s H locs := hG
          rw [hq16] at hb16
          refine g_eq (tgt := 66) hx hb dX4_remark_46 (by decide) (by omega) (fun h17 => ?_) (fun h17 => ?_)
          · refine lv_aload_n hx hb dX4_remark_66 rfl (lv_at hl 0 rfl) ?_
            refine lv_bipush (v := zI (-5)) hx hb dX4_remark_67 (by decide +kernel) ?_
            refine g_topz (y := -((5 : Nat) : Int)) (by decide) ?_
            refine m_ci (va_runV (As := [.int (zI (-((5 : Nat) : Int)))]) (rest := []) ⟨hx, hb, hml, hown, hts⟩ (metX4_no 5 (by decide)) (cwV 1 hts (lw_V q3427 q3429 qs43 q102 q3430) rfl rfl rfl (by decide +kernel) ⟨Nat.le_of_ble_eq_true rfl, Nat.le_of_ble_eq_true rfl⟩) (m_preV hG) rfl rfl hl.1 rfl (lv_room (Nat.le_of_ble_eq_true rfl)) dX4_remark_69 ⟨Nat.le_of_ble_eq_true rfl, Nat.le_of_ble_eq_true rfl⟩) hG (fun r_31 S_32 H locs hp hG => ?_)
            obtain ⟨rfl, rfl⟩ := hp
            have hG : mW X mo ad (mNo S 5) s H locs := hG
            exact m_iret hx hb hr hlocks hG (by first | (exfalso; omega) | exact (hX.noR 5 (by unfold opRemark; (repeat (first | rw [if_pos (by omega)] | rw [if_neg (by omega)])); all_goals (try (unfold aLn; simp only [Int.toNat_natCast])); all_goals ((repeat (first | rw [if_pos (by omega)] | rw [if_neg (by omega)])) <;> rfl)))) ⟨Nat.le_of_ble_eq_true rfl, Nat.le_of_ble_eq_true rfl⟩ dX4_remark_72
          · refine lv_aload_n hx hb dX4_remark_49 rfl (lv_at hl 0 rfl) ?_
            refine lv_iload_n hx hb dX4_remark_50 rfl (lv_at hl 3 rfl) ?_
            refine lv_iload hx hb dX4_remark_51 (lv_at hl 5 rfl) ?_
            have hq18 := hX.o.len (r := x1) (by omega)
            have hQ18 := (hA.w.tx (r := x1) (by omega)).1
            refine m_ci (va_runV (As := [.int (zI (x1 : Int)), .int (zI j)]) (rest := []) ⟨hx, hb, hml, hown, hts⟩ (metX4_isLine (r := x1) (by omega) ⟨by omega, by omega, by omega⟩) (cwV 2 hts (lw_V q3534 q3536 qs58 q102 q3537) rfl rfl rfl (by decide +kernel) ⟨Nat.le_of_ble_eq_true rfl, Nat.le_of_ble_eq_true rfl⟩) (m_preV hG) rfl rfl hl.1 rfl (lv_room (Nat.le_of_ble_eq_true rfl)) dX4_remark_53 ⟨Nat.le_of_ble_eq_true rfl, Nat.le_of_ble_eq_true rfl⟩) hG (fun r_33 S_34 H locs hp hG => ?_)
            obtain ⟨b18, rfl, hb18, rfl⟩ := hp
            have hG : mW X mo ad S s H locs := hG
            rw [hq18] at hb18
            refine g_eq (tgt := 66) hx hb dX4_remark_56 (by decide) (by omega) (fun h19 => ?_) (fun h19 => ?_)
            · refine lv_aload_n hx hb dX4_remark_66 rfl (lv_at hl 0 rfl) ?_
              refine lv_bipush (v := zI (-5)) hx hb dX4_remark_67 (by decide +kernel) ?_
              refine g_topz (y := -((5 : Nat) : Int)) (by decide) ?_
              refine m_ci (va_runV (As := [.int (zI (-((5 : Nat) : Int)))]) (rest := []) ⟨hx, hb, hml, hown, hts⟩ (metX4_no 5 (by decide)) (cwV 1 hts (lw_V q3427 q3429 qs43 q102 q3430) rfl rfl rfl (by decide +kernel) ⟨Nat.le_of_ble_eq_true rfl, Nat.le_of_ble_eq_true rfl⟩) (m_preV hG) rfl rfl hl.1 rfl (lv_room (Nat.le_of_ble_eq_true rfl)) dX4_remark_69 ⟨Nat.le_of_ble_eq_true rfl, Nat.le_of_ble_eq_true rfl⟩) hG (fun r_35 S_36 H locs hp hG => ?_)
              obtain ⟨rfl, rfl⟩ := hp
              have hG : mW X mo ad (mNo S 5) s H locs := hG
              exact m_iret hx hb hr hlocks hG (by first | (exfalso; omega) | exact (hX.noR 5 (by unfold opRemark; (repeat (first | rw [if_pos (by omega)] | rw [if_neg (by omega)])); all_goals (try (unfold aLn; simp only [Int.toNat_natCast])); all_goals ((repeat (first | rw [if_pos (by omega)] | rw [if_neg (by omega)])) <;> rfl)))) ⟨Nat.le_of_ble_eq_true rfl, Nat.le_of_ble_eq_true rfl⟩ dX4_remark_72
            · refine lv_iload hx hb dX4_remark_59 (lv_at hl 5 rfl) ?_
              refine lv_iload hx hb dX4_remark_61 (lv_at hl 4 rfl) ?_
              refine g_cge (tgt := 73) hx hb dX4_remark_63 (by decide) (by omega) (fun h20 => ?_) (fun h20 => ?_)
              · refine lv_iload_n hx hb dX4_remark_73 rfl (lv_at hl 2 rfl) ?_
                refine lv_iconst (v := zI 0) hx hb dX4_remark_74 (by decide +kernel) ?_
                refine lv_bipush (v := zI 9) hx hb dX4_remark_75 (by decide +kernel) ?_
                refine m_ci (va_runS (As := [.int (zI k), .int (zI 0), .int (zI 9)]) (rest := []) ⟨hx, hb, hml, hown, hts⟩ (metX4_within (by omega)) (va_cwS 3 hts (lw_S q3424 q3425 q102 q3426) rfl rfl rfl (by decide +kernel) ⟨Nat.le_of_ble_eq_true rfl, Nat.le_of_ble_eq_true rfl⟩) (m_preS hG) rfl rfl hl.1 rfl (lv_room (Nat.le_of_ble_eq_true rfl)) dX4_remark_77 ⟨Nat.le_of_ble_eq_true rfl, Nat.le_of_ble_eq_true rfl⟩) hG (fun r_37 S_38 H locs hp hG => ?_)
                obtain ⟨bw21, rfl, hbw21, rfl⟩ := hp
                have hG : mW X mo ad S s H locs := hG
                refine g_ne (tgt := 90) hx hb dX4_remark_80 (by decide) (by omega) (fun h22 => ?_) (fun h22 => ?_)
                · refine lv_aload_n hx hb dX4_remark_90 rfl (lv_at hl 0 rfl) ?_
                  refine m_get 5 (by decide) (v := .int (zI (wM (aWd a) : Int))) (congrArg (fun z => Value.int (zI z)) (show S.1 5 = (wM (aWd a) : Int) from hX.o.m)) hx hb hts hown hG (hts _ q3301) dX4_remark_91 ?_
                  refine lv_bipush (v := zI 16) hx hb dX4_remark_94 (by decide +kernel) ?_
                  refine g_cne (tgt := 108) hx hb dX4_remark_96 (by decide) (by omega) (fun h23 => ?_) (fun h23 => ?_)
                  · have hl : lv_has ls 7 [(0, .ref mo), (1, .int (zI (rKind (kind.toNat, k.toNat, x1, i.toNat, j.toNat, iO ans) : Int))), (2, .int (zI (rBy (kind.toNat, k.toNat, x1, i.toNat, j.toNat, iO ans) : Int))), (3, .int (zI (rOn (kind.toNat, k.toNat, x1, i.toNat, j.toNat, iO ans) : Int))), (4, .int (zI (rP (kind.toNat, k.toNat, x1, i.toNat, j.toNat, iO ans) : Int))), (5, .int (zI (rQ (kind.toNat, k.toNat, x1, i.toNat, j.toNat, iO ans) : Int))), (6, .int (zI (oI (rAns (kind.toNat, k.toNat, x1, i.toNat, j.toNat, iO ans)))))] := by rw [show ((rKind (kind.toNat, k.toNat, x1, i.toNat, j.toNat, iO ans) : Nat) : Int) = kind by (show ((kind.toNat : Nat) : Int) = kind); omega, show ((rBy (kind.toNat, k.toNat, x1, i.toNat, j.toNat, iO ans) : Nat) : Int) = k by (show ((k.toNat : Nat) : Int) = k); omega, show ((rP (kind.toNat, k.toNat, x1, i.toNat, j.toNat, iO ans) : Nat) : Int) = i by (show ((i.toNat : Nat) : Int) = i); omega, show ((rQ (kind.toNat, k.toNat, x1, i.toNat, j.toNat, iO ans) : Nat) : Int) = j by (show ((j.toNat : Nat) : Int) = j); omega, show oI (rAns (kind.toNat, k.toNat, x1, i.toNat, j.toNat, iO ans)) = ans from oI_iO (by omega)]; exact hl
                    refine lv_aload_n hx hb dX4_remark_108 rfl (lv_at hl 0 rfl) ?_
                    refine lv_iload_n hx hb dX4_remark_109 rfl (lv_at hl 1 rfl) ?_
                    refine lv_iload_n hx hb dX4_remark_110 rfl (lv_at hl 2 rfl) ?_
                    refine lv_iload_n hx hb dX4_remark_111 rfl (lv_at hl 3 rfl) ?_
                    refine lv_iload hx hb dX4_remark_112 (lv_at hl 4 rfl) ?_
                    refine lv_iload hx hb dX4_remark_114 (lv_at hl 5 rfl) ?_
                    refine lv_iload hx hb dX4_remark_116 (lv_at hl 6 rfl) ?_
                    refine m_ci (va_runV (As := [.int (zI (rKind (kind.toNat, k.toNat, x1, i.toNat, j.toNat, iO ans) : Int)), .int (zI (rBy (kind.toNat, k.toNat, x1, i.toNat, j.toNat, iO ans) : Int)), .int (zI (rOn (kind.toNat, k.toNat, x1, i.toNat, j.toNat, iO ans) : Int)), .int (zI (rP (kind.toNat, k.toNat, x1, i.toNat, j.toNat, iO ans) : Int)), .int (zI (rQ (kind.toNat, k.toNat, x1, i.toNat, j.toNat, iO ans) : Int)), .int (zI (oI (rAns (kind.toNat, k.toNat, x1, i.toNat, j.toNat, iO ans))))]) (rest := []) ⟨hx, hb, hml, hown, hts⟩ (metX4_newRemark (rm := (kind.toNat, k.toNat, x1, i.toNat, j.toNat, iO ans)) hX.o hA.w (by omega)) (cwV 6 hts (lw_V q3579 q3581 qs62 q102 q3582) rfl rfl rfl (by decide +kernel) ⟨Nat.le_of_ble_eq_true rfl, Nat.le_of_ble_eq_true rfl⟩) (m_preV hG) rfl rfl hl.1 rfl (lv_room (Nat.le_of_ble_eq_true rfl)) dX4_remark_118 ⟨Nat.le_of_ble_eq_true rfl, Nat.le_of_ble_eq_true rfl⟩) hG (fun r_39 S_40 H locs hp hG => ?_)
                    obtain ⟨rfl, hOm, htk⟩ := hp
                    have hG : mW X mo ad S_40 s H locs := hG
                    exact m_iret hx hb hr hlocks hG (by rw [show opRemark a kind k x1 i j ans = (((wM (aWd a) : Nat) : Int), aSetW a (wMake (aWd a) (kind.toNat, k.toNat, x1, i.toNat, j.toNat, iO ans))) from (by unfold opRemark; unfold aLn; simp only [Int.toNat_natCast]; all_goals ((repeat (first | rw [if_pos (by omega)] | rw [if_neg (by omega)])) <;> rfl))]; exact ⟨rfl, hX.tk hOm htk⟩) ⟨Nat.le_of_ble_eq_true rfl, Nat.le_of_ble_eq_true rfl⟩ dX4_remark_121
                  · refine lv_aload_n hx hb dX4_remark_99 rfl (lv_at hl 0 rfl) ?_
                    refine lv_bipush (v := zI (-7)) hx hb dX4_remark_100 (by decide +kernel) ?_
                    refine g_topz (y := -((7 : Nat) : Int)) (by decide) ?_
                    refine m_ci (va_runV (As := [.int (zI (-((7 : Nat) : Int)))]) (rest := []) ⟨hx, hb, hml, hown, hts⟩ (metX4_no 7 (by decide)) (cwV 1 hts (lw_V q3427 q3429 qs43 q102 q3430) rfl rfl rfl (by decide +kernel) ⟨Nat.le_of_ble_eq_true rfl, Nat.le_of_ble_eq_true rfl⟩) (m_preV hG) rfl rfl hl.1 rfl (lv_room (Nat.le_of_ble_eq_true rfl)) dX4_remark_102 ⟨Nat.le_of_ble_eq_true rfl, Nat.le_of_ble_eq_true rfl⟩) hG (fun r_41 S_42 H locs hp hG => ?_)
                    obtain ⟨rfl, rfl⟩ := hp
                    have hG : mW X mo ad (mNo S 7) s H locs := hG
                    refine lv_goto (tgt := 121) hx hb dX4_remark_105 (by decide) ?_
                    exact m_iret hx hb hr hlocks hG (by first | (exfalso; omega) | exact (hX.noR 7 (by unfold opRemark; (repeat (first | rw [if_pos (by omega)] | rw [if_neg (by omega)])); all_goals (try (unfold aLn; simp only [Int.toNat_natCast])); all_goals ((repeat (first | rw [if_pos (by omega)] | rw [if_neg (by omega)])) <;> rfl)))) ⟨Nat.le_of_ble_eq_true rfl, Nat.le_of_ble_eq_true rfl⟩ dX4_remark_121
                · refine lv_aload_n hx hb dX4_remark_83 rfl (lv_at hl 0 rfl) ?_
                  refine lv_bipush (v := zI (-6)) hx hb dX4_remark_84 (by decide +kernel) ?_
                  refine g_topz (y := -((6 : Nat) : Int)) (by decide) ?_
                  refine m_ci (va_runV (As := [.int (zI (-((6 : Nat) : Int)))]) (rest := []) ⟨hx, hb, hml, hown, hts⟩ (metX4_no 6 (by decide)) (cwV 1 hts (lw_V q3427 q3429 qs43 q102 q3430) rfl rfl rfl (by decide +kernel) ⟨Nat.le_of_ble_eq_true rfl, Nat.le_of_ble_eq_true rfl⟩) (m_preV hG) rfl rfl hl.1 rfl (lv_room (Nat.le_of_ble_eq_true rfl)) dX4_remark_86 ⟨Nat.le_of_ble_eq_true rfl, Nat.le_of_ble_eq_true rfl⟩) hG (fun r_43 S_44 H locs hp hG => ?_)
                  obtain ⟨rfl, rfl⟩ := hp
                  have hG : mW X mo ad (mNo S 6) s H locs := hG
                  exact m_iret hx hb hr hlocks hG (by first | (exfalso; omega) | exact (hX.noR 6 (by unfold opRemark; (repeat (first | rw [if_pos (by omega)] | rw [if_neg (by omega)])); all_goals (try (unfold aLn; simp only [Int.toNat_natCast])); all_goals ((repeat (first | rw [if_pos (by omega)] | rw [if_neg (by omega)])) <;> rfl)))) ⟨Nat.le_of_ble_eq_true rfl, Nat.le_of_ble_eq_true rfl⟩ dX4_remark_89
              · refine lv_aload_n hx hb dX4_remark_66 rfl (lv_at hl 0 rfl) ?_
                refine lv_bipush (v := zI (-5)) hx hb dX4_remark_67 (by decide +kernel) ?_
                refine g_topz (y := -((5 : Nat) : Int)) (by decide) ?_
                refine m_ci (va_runV (As := [.int (zI (-((5 : Nat) : Int)))]) (rest := []) ⟨hx, hb, hml, hown, hts⟩ (metX4_no 5 (by decide)) (cwV 1 hts (lw_V q3427 q3429 qs43 q102 q3430) rfl rfl rfl (by decide +kernel) ⟨Nat.le_of_ble_eq_true rfl, Nat.le_of_ble_eq_true rfl⟩) (m_preV hG) rfl rfl hl.1 rfl (lv_room (Nat.le_of_ble_eq_true rfl)) dX4_remark_69 ⟨Nat.le_of_ble_eq_true rfl, Nat.le_of_ble_eq_true rfl⟩) hG (fun r_45 S_46 H locs hp hG => ?_)
                obtain ⟨rfl, rfl⟩ := hp
                have hG : mW X mo ad (mNo S 5) s H locs := hG
                exact m_iret hx hb hr hlocks hG (by first | (exfalso; omega) | exact (hX.noR 5 (by unfold opRemark; (repeat (first | rw [if_pos (by omega)] | rw [if_neg (by omega)])); all_goals (try (unfold aLn; simp only [Int.toNat_natCast])); all_goals ((repeat (first | rw [if_pos (by omega)] | rw [if_neg (by omega)])) <;> rfl)))) ⟨Nat.le_of_ble_eq_true rfl, Nat.le_of_ble_eq_true rfl⟩ dX4_remark_72
        · refine lv_aload_n hx hb dX4_remark_33 rfl (lv_at hl 0 rfl) ?_
          refine lv_iconst (v := zI (-1)) hx hb dX4_remark_34 (by decide +kernel) ?_
          refine g_topz (y := -((1 : Nat) : Int)) (by decide) ?_
          refine m_ci (va_runV (As := [.int (zI (-((1 : Nat) : Int)))]) (rest := []) ⟨hx, hb, hml, hown, hts⟩ (metX4_no 1 (by decide)) (cwV 1 hts (lw_V q3427 q3429 qs43 q102 q3430) rfl rfl rfl (by decide +kernel) ⟨Nat.le_of_ble_eq_true rfl, Nat.le_of_ble_eq_true rfl⟩) (m_preV hG) rfl rfl hl.1 rfl (lv_room (Nat.le_of_ble_eq_true rfl)) dX4_remark_35 ⟨Nat.le_of_ble_eq_true rfl, Nat.le_of_ble_eq_true rfl⟩) hG (fun r_47 S_48 H locs hp hG => ?_)
          obtain ⟨rfl, rfl⟩ := hp
          have hG : mW X mo ad (mNo S 1) s H locs := hG
          exact m_iret hx hb hr hlocks hG (by first | (exfalso; omega) | exact (hX.noR 1 (by unfold opRemark; all_goals ((repeat (first | rw [if_pos (by omega)] | rw [if_neg (by omega)])) <;> rfl)))) ⟨Nat.le_of_ble_eq_true rfl, Nat.le_of_ble_eq_true rfl⟩ dX4_remark_38

set_option maxHeartbeats 4000000 in
theorem metX4_remarkOf {l : Launch} {X : gX} {mo : Nat} {ad : Nat → Nat} {S : mS} {a : aS} (hX : mX S a) (hA : aOK a) {x what : Int} (hr0 : -2147483648 ≤ x ∧ x < 2147483648 ∧ -2147483648 ≤ what ∧ what < 2147483648) : Met l yX4_remarkOf (ws_ yX4_remarkOf cX4_remarkOf 3 (some FieldType.int)) ({ frames := 3, cells := 0, slots := 0, locals := 68 }) (mP X mo ad S [.ref mo, .int (zI x), .int (zI what)]) (mQi X mo ad (fun u T => u = zI (opRemarkOf a x what).1 ∧ mX T (opRemarkOf a x what).2)) 0 0 (mA mo ad) := by
  refine Met.m (by decide) (Nat.le_of_ble_eq_true rfl) ?_
  intro p e s m below meth c ls hx hb hr hts hown hlocks hml hG hl
  have hl : lv_has ls 3 [(0, .ref mo), (1, .int (zI x)), (2, .int (zI what))] := hl
  have hNN := hA.w.n
  have hMM := hA.w.m
  refine lv_aload_n hx hb dX4_remarkOf_0 rfl (lv_at hl 0 rfl) ?_
  refine lv_iload_n hx hb dX4_remarkOf_1 rfl (lv_at hl 1 rfl) ?_
  have hq1 := hX.o.m
  have hQ1 := hA.w.m
  refine m_ci (va_runV (As := [.int (zI x)]) (rest := []) ⟨hx, hb, hml, hown, hts⟩ (metX4_isRemark (by omega) (by omega)) (cwV 1 hts (lw_V q3455 q3457 qs46 q102 q3458) rfl rfl rfl (by decide +kernel) ⟨Nat.le_of_ble_eq_true rfl, Nat.le_of_ble_eq_true rfl⟩) (m_preV hG) rfl rfl hl.1 rfl (lv_room (Nat.le_of_ble_eq_true rfl)) dX4_remarkOf_2 ⟨Nat.le_of_ble_eq_true rfl, Nat.le_of_ble_eq_true rfl⟩) hG (fun r_1 S_2 H locs hp hG => ?_)
  obtain ⟨b1, rfl, hb1, rfl⟩ := hp
  have hG : mW X mo ad S s H locs := hG
  refine g_ne (tgt := 15) hx hb dX4_remarkOf_5 (by decide) (by omega) (fun h2 => ?_) (fun h2 => ?_)
  · obtain ⟨x1, rfl⟩ : ∃ n9 : Nat, x = n9 := ⟨x.toNat, by omega⟩
    refine lv_iload_n hx hb dX4_remarkOf_15 rfl (lv_at hl 2 rfl) ?_
    refine lv_iconst (v := zI 0) hx hb dX4_remarkOf_16 (by decide +kernel) ?_
    refine lv_bipush (v := zI 6) hx hb dX4_remarkOf_17 (by decide +kernel) ?_
    refine m_ci (va_runS (As := [.int (zI what), .int (zI 0), .int (zI 6)]) (rest := []) ⟨hx, hb, hml, hown, hts⟩ (metX4_within (by omega)) (va_cwS 3 hts (lw_S q3424 q3425 q102 q3426) rfl rfl rfl (by decide +kernel) ⟨Nat.le_of_ble_eq_true rfl, Nat.le_of_ble_eq_true rfl⟩) (m_preS hG) rfl rfl hl.1 rfl (lv_room (Nat.le_of_ble_eq_true rfl)) dX4_remarkOf_19 ⟨Nat.le_of_ble_eq_true rfl, Nat.le_of_ble_eq_true rfl⟩) hG (fun r_3 S_4 H locs hp hG => ?_)
    obtain ⟨bw3, rfl, hbw3, rfl⟩ := hp
    have hG : mW X mo ad S s H locs := hG
    refine g_eq (tgt := 32) hx hb dX4_remarkOf_22 (by decide) (by omega) (fun h4 => ?_) (fun h4 => ?_)
    · refine lv_iload_n hx hb dX4_remarkOf_32 rfl (lv_at hl 2 rfl) ?_
      rcases (show what = 7 ∨ what = 8 ∨ what = 9 ∨ (what < 7 ∨ 9 < what) by omega) with hk | hk | hk | hk
      · refine g_tin hx hb 7 (off := 27) (tgt := 60) dX4_remarkOf_33 hk (by decide) rfl (by decide) ?_
        refine lv_aload_n hx hb dX4_remarkOf_60 rfl (lv_at hl 0 rfl) ?_
        refine lv_iload_n hx hb dX4_remarkOf_61 rfl (lv_at hl 1 rfl) ?_
        refine m_ci (va_runV (As := [.int (zI (x1 : Int))]) (rest := []) ⟨hx, hb, hml, hown, hts⟩ (metX4_depth (x := x1) hX.o hA.w (by omega)) (cwV 1 hts (lw_V q3587 q3589 qs63 q102 q3590) rfl rfl rfl (by decide +kernel) ⟨Nat.le_of_ble_eq_true rfl, Nat.le_of_ble_eq_true rfl⟩) (m_preV hG) rfl rfl hl.1 rfl (lv_room (Nat.le_of_ble_eq_true rfl)) dX4_remarkOf_62 ⟨Nat.le_of_ble_eq_true rfl, Nat.le_of_ble_eq_true rfl⟩) hG (fun r_5 S_6 H locs hp hG => ?_)
        obtain ⟨rfl, rfl⟩ := hp
        have hG : mW X mo ad S s H locs := hG
        exact m_iret hx hb hr hlocks hG (by first | (exfalso; omega) | exact (hX.cast (by unfold opRemarkOf aOf; simp only [Int.toNat_natCast]; (repeat (first | rw [if_pos (by omega)] | rw [if_neg (by omega)])) <;> first | rfl | (rw [hop]; rfl) | (rw [Bool.eq_false_iff.mpr hop]; rfl)))) ⟨Nat.le_of_ble_eq_true rfl, Nat.le_of_ble_eq_true rfl⟩ dX4_remarkOf_65
      · refine g_tin hx hb 8 (off := 33) (tgt := 66) dX4_remarkOf_33 hk (by decide) rfl (by decide) ?_
        refine lv_aload_n hx hb dX4_remarkOf_66 rfl (lv_at hl 0 rfl) ?_
        refine lv_iload_n hx hb dX4_remarkOf_67 rfl (lv_at hl 1 rfl) ?_
        refine m_ci (va_runV (As := [.int (zI (x1 : Int))]) (rest := []) ⟨hx, hb, hml, hown, hts⟩ (metX4_thread (y := x1) hX.o hA.w (by omega)) (cwV 1 hts (lw_V q3591 q3593 qs64 q102 q3594) rfl rfl rfl (by decide +kernel) ⟨Nat.le_of_ble_eq_true rfl, Nat.le_of_ble_eq_true rfl⟩) (m_preV hG) rfl rfl hl.1 rfl (lv_room (Nat.le_of_ble_eq_true rfl)) dX4_remarkOf_68 ⟨Nat.le_of_ble_eq_true rfl, Nat.le_of_ble_eq_true rfl⟩) hG (fun r_7 S_8 H locs hp hG => ?_)
        obtain ⟨rfl, rfl⟩ := hp
        have hG : mW X mo ad S s H locs := hG
        exact m_iret hx hb hr hlocks hG (by first | (exfalso; omega) | exact (hX.cast (by unfold opRemarkOf aOf; simp only [Int.toNat_natCast]; (repeat (first | rw [if_pos (by omega)] | rw [if_neg (by omega)])) <;> first | rfl | (rw [hop]; rfl) | (rw [Bool.eq_false_iff.mpr hop]; rfl)))) ⟨Nat.le_of_ble_eq_true rfl, Nat.le_of_ble_eq_true rfl⟩ dX4_remarkOf_71
      · refine g_tin hx hb 9 (off := 39) (tgt := 72) dX4_remarkOf_33 hk (by decide) rfl (by decide) ?_
        refine lv_aload_n hx hb dX4_remarkOf_72 rfl (lv_at hl 0 rfl) ?_
        refine lv_iload_n hx hb dX4_remarkOf_73 rfl (lv_at hl 1 rfl) ?_
        refine m_ci (va_runV (As := [.int (zI (x1 : Int))]) (rest := []) ⟨hx, hb, hml, hown, hts⟩ (metX4_isOpen (y := x1) hX.o hA.w (by omega)) (cwV 1 hts (lw_V q3599 q3601 qs66 q102 q3602) rfl rfl rfl (by decide +kernel) ⟨Nat.le_of_ble_eq_true rfl, Nat.le_of_ble_eq_true rfl⟩) (m_preV hG) rfl rfl hl.1 rfl (lv_room (Nat.le_of_ble_eq_true rfl)) dX4_remarkOf_74 ⟨Nat.le_of_ble_eq_true rfl, Nat.le_of_ble_eq_true rfl⟩) hG (fun r_9 S_10 H locs hp hG => ?_)
        obtain ⟨b5, rfl, hb5, rfl⟩ := hp
        have hG : mW X mo ad S s H locs := hG
        rcases hb5 with ⟨rfl, hop⟩ | ⟨rfl, hop⟩
        · refine g_eq (tgt := 84) hx hb dX4_remarkOf_77 (by decide) (by decide) (fun h6 => ?_) (fun h6 => ?_)
          · exfalso; omega
          · refine lv_iconst (v := zI 1) hx hb dX4_remarkOf_80 (by decide +kernel) ?_
            refine lv_goto (tgt := 85) hx hb dX4_remarkOf_81 (by decide) ?_
            exact m_iret hx hb hr hlocks hG (by first | (exfalso; omega) | exact (hX.cast (by unfold opRemarkOf aOf; simp only [Int.toNat_natCast]; (repeat (first | rw [if_pos (by omega)] | rw [if_neg (by omega)])) <;> first | rfl | (rw [hop]; rfl) | (rw [Bool.eq_false_iff.mpr hop]; rfl)))) ⟨Nat.le_of_ble_eq_true rfl, Nat.le_of_ble_eq_true rfl⟩ dX4_remarkOf_85
        · refine g_eq (tgt := 84) hx hb dX4_remarkOf_77 (by decide) (by decide) (fun h7 => ?_) (fun h7 => ?_)
          · refine lv_iconst (v := zI 0) hx hb dX4_remarkOf_84 (by decide +kernel) ?_
            exact m_iret hx hb hr hlocks hG (by first | (exfalso; omega) | exact (hX.cast (by unfold opRemarkOf aOf; simp only [Int.toNat_natCast]; (repeat (first | rw [if_pos (by omega)] | rw [if_neg (by omega)])) <;> first | rfl | (rw [hop]; rfl) | (rw [Bool.eq_false_iff.mpr hop]; rfl)))) ⟨Nat.le_of_ble_eq_true rfl, Nat.le_of_ble_eq_true rfl⟩ dX4_remarkOf_85
          · exfalso; omega
      · refine g_tout (tgt := 86) hx hb dX4_remarkOf_33 (by omega) (by decide) ?_
        refine lv_aload_n hx hb dX4_remarkOf_86 rfl (lv_at hl 0 rfl) ?_
        refine lv_bipush (v := zI (-5)) hx hb dX4_remarkOf_87 (by decide +kernel) ?_
        refine g_topz (y := -((5 : Nat) : Int)) (by decide) ?_
        refine m_ci (va_runV (As := [.int (zI (-((5 : Nat) : Int)))]) (rest := []) ⟨hx, hb, hml, hown, hts⟩ (metX4_no 5 (by decide)) (cwV 1 hts (lw_V q3427 q3429 qs43 q102 q3430) rfl rfl rfl (by decide +kernel) ⟨Nat.le_of_ble_eq_true rfl, Nat.le_of_ble_eq_true rfl⟩) (m_preV hG) rfl rfl hl.1 rfl (lv_room (Nat.le_of_ble_eq_true rfl)) dX4_remarkOf_89 ⟨Nat.le_of_ble_eq_true rfl, Nat.le_of_ble_eq_true rfl⟩) hG (fun r_11 S_12 H locs hp hG => ?_)
        obtain ⟨rfl, rfl⟩ := hp
        have hG : mW X mo ad (mNo S 5) s H locs := hG
        exact m_iret hx hb hr hlocks hG (by first | (exfalso; omega) | exact (hX.noR 5 (by unfold opRemarkOf; all_goals ((repeat (first | rw [if_pos (by omega)] | rw [if_neg (by omega)])) <;> rfl)))) ⟨Nat.le_of_ble_eq_true rfl, Nat.le_of_ble_eq_true rfl⟩ dX4_remarkOf_92
    · rcases (show what = 0 ∨ what = 1 ∨ what = 2 ∨ what = 3 ∨ what = 4 ∨ what = 5 ∨ what = 6 by omega) with rfl | rfl | rfl | rfl | rfl | rfl | rfl
      · refine lv_aload_n hx hb dX4_remarkOf_25 rfl (lv_at hl 0 rfl) ?_
        refine lv_iload_n hx hb dX4_remarkOf_26 rfl (lv_at hl 2 rfl) ?_
        refine lv_iload_n hx hb dX4_remarkOf_27 rfl (lv_at hl 1 rfl) ?_
        refine m_ci (va_runV (As := [.int (zI 0), .int (zI (x1 : Int))]) (rest := []) ⟨hx, hb, hml, hown, hts⟩ (metX4_of 0 (m0 := x1) (by omega)) (cwV 2 hts (lw_V q3467 q3469 qs47 q102 q3470) rfl rfl rfl (by decide +kernel) ⟨Nat.le_of_ble_eq_true rfl, Nat.le_of_ble_eq_true rfl⟩) (m_preV hG) rfl rfl hl.1 rfl (lv_room (Nat.le_of_ble_eq_true rfl)) dX4_remarkOf_28 ⟨Nat.le_of_ble_eq_true rfl, Nat.le_of_ble_eq_true rfl⟩) hG (fun r_13 S_14 H locs hp hG => ?_)
        obtain ⟨rfl, rfl⟩ := hp
        have hG : mW X mo ad S s H locs := hG
        refine g_topz (y := (rKind (wRk (aWd a) x1) : Int)) ((congrArg (S.2.1 6) (by omega : 16 * 0 + x1 = x1)).trans (hX.o.kd (m := x1) (by omega))) ?_
        have hv8 := hA.w.rk (m := x1) (by omega)
        exact m_iret hx hb hr hlocks hG (by first | (exfalso; omega) | exact (hX.cast (by unfold opRemarkOf aOf; simp only [Int.toNat_natCast]; (repeat (first | rw [if_pos (by omega)] | rw [if_neg (by omega)])) <;> first | rfl | (rw [hop]; rfl) | (rw [Bool.eq_false_iff.mpr hop]; rfl)))) ⟨Nat.le_of_ble_eq_true rfl, Nat.le_of_ble_eq_true rfl⟩ dX4_remarkOf_31
      · refine lv_aload_n hx hb dX4_remarkOf_25 rfl (lv_at hl 0 rfl) ?_
        refine lv_iload_n hx hb dX4_remarkOf_26 rfl (lv_at hl 2 rfl) ?_
        refine lv_iload_n hx hb dX4_remarkOf_27 rfl (lv_at hl 1 rfl) ?_
        refine m_ci (va_runV (As := [.int (zI 1), .int (zI (x1 : Int))]) (rest := []) ⟨hx, hb, hml, hown, hts⟩ (metX4_of 1 (m0 := x1) (by omega)) (cwV 2 hts (lw_V q3467 q3469 qs47 q102 q3470) rfl rfl rfl (by decide +kernel) ⟨Nat.le_of_ble_eq_true rfl, Nat.le_of_ble_eq_true rfl⟩) (m_preV hG) rfl rfl hl.1 rfl (lv_room (Nat.le_of_ble_eq_true rfl)) dX4_remarkOf_28 ⟨Nat.le_of_ble_eq_true rfl, Nat.le_of_ble_eq_true rfl⟩) hG (fun r_15 S_16 H locs hp hG => ?_)
        obtain ⟨rfl, rfl⟩ := hp
        have hG : mW X mo ad S s H locs := hG
        refine g_topz (y := (rBy (wRk (aWd a) x1) : Int)) (hX.o.by (m := x1) (by omega)) ?_
        have hv9 := hA.w.rk (m := x1) (by omega)
        exact m_iret hx hb hr hlocks hG (by first | (exfalso; omega) | exact (hX.cast (by unfold opRemarkOf aOf; simp only [Int.toNat_natCast]; (repeat (first | rw [if_pos (by omega)] | rw [if_neg (by omega)])) <;> first | rfl | (rw [hop]; rfl) | (rw [Bool.eq_false_iff.mpr hop]; rfl)))) ⟨Nat.le_of_ble_eq_true rfl, Nat.le_of_ble_eq_true rfl⟩ dX4_remarkOf_31
      · refine lv_aload_n hx hb dX4_remarkOf_25 rfl (lv_at hl 0 rfl) ?_
        refine lv_iload_n hx hb dX4_remarkOf_26 rfl (lv_at hl 2 rfl) ?_
        refine lv_iload_n hx hb dX4_remarkOf_27 rfl (lv_at hl 1 rfl) ?_
        refine m_ci (va_runV (As := [.int (zI 2), .int (zI (x1 : Int))]) (rest := []) ⟨hx, hb, hml, hown, hts⟩ (metX4_of 2 (m0 := x1) (by omega)) (cwV 2 hts (lw_V q3467 q3469 qs47 q102 q3470) rfl rfl rfl (by decide +kernel) ⟨Nat.le_of_ble_eq_true rfl, Nat.le_of_ble_eq_true rfl⟩) (m_preV hG) rfl rfl hl.1 rfl (lv_room (Nat.le_of_ble_eq_true rfl)) dX4_remarkOf_28 ⟨Nat.le_of_ble_eq_true rfl, Nat.le_of_ble_eq_true rfl⟩) hG (fun r_17 S_18 H locs hp hG => ?_)
        obtain ⟨rfl, rfl⟩ := hp
        have hG : mW X mo ad S s H locs := hG
        refine g_topz (y := (rOn (wRk (aWd a) x1) : Int)) (hX.o.on (m := x1) (by omega)) ?_
        have hv10 := hA.w.rk (m := x1) (by omega)
        exact m_iret hx hb hr hlocks hG (by first | (exfalso; omega) | exact (hX.cast (by unfold opRemarkOf aOf; simp only [Int.toNat_natCast]; (repeat (first | rw [if_pos (by omega)] | rw [if_neg (by omega)])) <;> first | rfl | (rw [hop]; rfl) | (rw [Bool.eq_false_iff.mpr hop]; rfl)))) ⟨Nat.le_of_ble_eq_true rfl, Nat.le_of_ble_eq_true rfl⟩ dX4_remarkOf_31
      · refine lv_aload_n hx hb dX4_remarkOf_25 rfl (lv_at hl 0 rfl) ?_
        refine lv_iload_n hx hb dX4_remarkOf_26 rfl (lv_at hl 2 rfl) ?_
        refine lv_iload_n hx hb dX4_remarkOf_27 rfl (lv_at hl 1 rfl) ?_
        refine m_ci (va_runV (As := [.int (zI 3), .int (zI (x1 : Int))]) (rest := []) ⟨hx, hb, hml, hown, hts⟩ (metX4_of 3 (m0 := x1) (by omega)) (cwV 2 hts (lw_V q3467 q3469 qs47 q102 q3470) rfl rfl rfl (by decide +kernel) ⟨Nat.le_of_ble_eq_true rfl, Nat.le_of_ble_eq_true rfl⟩) (m_preV hG) rfl rfl hl.1 rfl (lv_room (Nat.le_of_ble_eq_true rfl)) dX4_remarkOf_28 ⟨Nat.le_of_ble_eq_true rfl, Nat.le_of_ble_eq_true rfl⟩) hG (fun r_19 S_20 H locs hp hG => ?_)
        obtain ⟨rfl, rfl⟩ := hp
        have hG : mW X mo ad S s H locs := hG
        refine g_topz (y := (rP (wRk (aWd a) x1) : Int)) (hX.o.p (m := x1) (by omega)) ?_
        have hv11 := hA.w.rk (m := x1) (by omega)
        exact m_iret hx hb hr hlocks hG (by first | (exfalso; omega) | exact (hX.cast (by unfold opRemarkOf aOf; simp only [Int.toNat_natCast]; (repeat (first | rw [if_pos (by omega)] | rw [if_neg (by omega)])) <;> first | rfl | (rw [hop]; rfl) | (rw [Bool.eq_false_iff.mpr hop]; rfl)))) ⟨Nat.le_of_ble_eq_true rfl, Nat.le_of_ble_eq_true rfl⟩ dX4_remarkOf_31
      · refine lv_aload_n hx hb dX4_remarkOf_25 rfl (lv_at hl 0 rfl) ?_
        refine lv_iload_n hx hb dX4_remarkOf_26 rfl (lv_at hl 2 rfl) ?_
        refine lv_iload_n hx hb dX4_remarkOf_27 rfl (lv_at hl 1 rfl) ?_
        refine m_ci (va_runV (As := [.int (zI 4), .int (zI (x1 : Int))]) (rest := []) ⟨hx, hb, hml, hown, hts⟩ (metX4_of 4 (m0 := x1) (by omega)) (cwV 2 hts (lw_V q3467 q3469 qs47 q102 q3470) rfl rfl rfl (by decide +kernel) ⟨Nat.le_of_ble_eq_true rfl, Nat.le_of_ble_eq_true rfl⟩) (m_preV hG) rfl rfl hl.1 rfl (lv_room (Nat.le_of_ble_eq_true rfl)) dX4_remarkOf_28 ⟨Nat.le_of_ble_eq_true rfl, Nat.le_of_ble_eq_true rfl⟩) hG (fun r_21 S_22 H locs hp hG => ?_)
        obtain ⟨rfl, rfl⟩ := hp
        have hG : mW X mo ad S s H locs := hG
        refine g_topz (y := (rQ (wRk (aWd a) x1) : Int)) (hX.o.q (m := x1) (by omega)) ?_
        have hv12 := hA.w.rk (m := x1) (by omega)
        exact m_iret hx hb hr hlocks hG (by first | (exfalso; omega) | exact (hX.cast (by unfold opRemarkOf aOf; simp only [Int.toNat_natCast]; (repeat (first | rw [if_pos (by omega)] | rw [if_neg (by omega)])) <;> first | rfl | (rw [hop]; rfl) | (rw [Bool.eq_false_iff.mpr hop]; rfl)))) ⟨Nat.le_of_ble_eq_true rfl, Nat.le_of_ble_eq_true rfl⟩ dX4_remarkOf_31
      · refine lv_aload_n hx hb dX4_remarkOf_25 rfl (lv_at hl 0 rfl) ?_
        refine lv_iload_n hx hb dX4_remarkOf_26 rfl (lv_at hl 2 rfl) ?_
        refine lv_iload_n hx hb dX4_remarkOf_27 rfl (lv_at hl 1 rfl) ?_
        refine m_ci (va_runV (As := [.int (zI 5), .int (zI (x1 : Int))]) (rest := []) ⟨hx, hb, hml, hown, hts⟩ (metX4_of 5 (m0 := x1) (by omega)) (cwV 2 hts (lw_V q3467 q3469 qs47 q102 q3470) rfl rfl rfl (by decide +kernel) ⟨Nat.le_of_ble_eq_true rfl, Nat.le_of_ble_eq_true rfl⟩) (m_preV hG) rfl rfl hl.1 rfl (lv_room (Nat.le_of_ble_eq_true rfl)) dX4_remarkOf_28 ⟨Nat.le_of_ble_eq_true rfl, Nat.le_of_ble_eq_true rfl⟩) hG (fun r_23 S_24 H locs hp hG => ?_)
        obtain ⟨rfl, rfl⟩ := hp
        have hG : mW X mo ad S s H locs := hG
        refine g_topz (y := (oI (rAns (wRk (aWd a) x1)))) (hX.o.ans (m := x1) (by omega)) ?_
        have hv13 := oI_lt (fun z9 hz9 => hA.w.ra (m := x1) (x := z9) (by omega) hz9)
        exact m_iret hx hb hr hlocks hG (by first | (exfalso; omega) | exact (hX.cast (by unfold opRemarkOf aOf; simp only [Int.toNat_natCast]; (repeat (first | rw [if_pos (by omega)] | rw [if_neg (by omega)])) <;> first | rfl | (rw [hop]; rfl) | (rw [Bool.eq_false_iff.mpr hop]; rfl)))) ⟨Nat.le_of_ble_eq_true rfl, Nat.le_of_ble_eq_true rfl⟩ dX4_remarkOf_31
      · refine lv_aload_n hx hb dX4_remarkOf_25 rfl (lv_at hl 0 rfl) ?_
        refine lv_iload_n hx hb dX4_remarkOf_26 rfl (lv_at hl 2 rfl) ?_
        refine lv_iload_n hx hb dX4_remarkOf_27 rfl (lv_at hl 1 rfl) ?_
        refine m_ci (va_runV (As := [.int (zI 6), .int (zI (x1 : Int))]) (rest := []) ⟨hx, hb, hml, hown, hts⟩ (metX4_of 6 (m0 := x1) (by omega)) (cwV 2 hts (lw_V q3467 q3469 qs47 q102 q3470) rfl rfl rfl (by decide +kernel) ⟨Nat.le_of_ble_eq_true rfl, Nat.le_of_ble_eq_true rfl⟩) (m_preV hG) rfl rfl hl.1 rfl (lv_room (Nat.le_of_ble_eq_true rfl)) dX4_remarkOf_28 ⟨Nat.le_of_ble_eq_true rfl, Nat.le_of_ble_eq_true rfl⟩) hG (fun r_25 S_26 H locs hp hG => ?_)
        obtain ⟨rfl, rfl⟩ := hp
        have hG : mW X mo ad S s H locs := hG
        refine g_topz (y := (bI (wSt (aWd a) x1))) (hX.o.st (m := x1) (by omega)) ?_
        have hv14 : bI (wSt (aWd a) x1) = 0 ∨ bI (wSt (aWd a) x1) = 1 := by cases wSt (aWd a) x1 <;> simp [bI]
        exact m_iret hx hb hr hlocks hG (by first | (exfalso; omega) | exact (hX.cast (by unfold opRemarkOf aOf; simp only [Int.toNat_natCast]; (repeat (first | rw [if_pos (by omega)] | rw [if_neg (by omega)])) <;> first | rfl | (rw [hop]; rfl) | (rw [Bool.eq_false_iff.mpr hop]; rfl)))) ⟨Nat.le_of_ble_eq_true rfl, Nat.le_of_ble_eq_true rfl⟩ dX4_remarkOf_31
  · refine lv_aload_n hx hb dX4_remarkOf_8 rfl (lv_at hl 0 rfl) ?_
    refine lv_bipush (v := zI (-5)) hx hb dX4_remarkOf_9 (by decide +kernel) ?_
    refine g_topz (y := -((5 : Nat) : Int)) (by decide) ?_
    refine m_ci (va_runV (As := [.int (zI (-((5 : Nat) : Int)))]) (rest := []) ⟨hx, hb, hml, hown, hts⟩ (metX4_no 5 (by decide)) (cwV 1 hts (lw_V q3427 q3429 qs43 q102 q3430) rfl rfl rfl (by decide +kernel) ⟨Nat.le_of_ble_eq_true rfl, Nat.le_of_ble_eq_true rfl⟩) (m_preV hG) rfl rfl hl.1 rfl (lv_room (Nat.le_of_ble_eq_true rfl)) dX4_remarkOf_11 ⟨Nat.le_of_ble_eq_true rfl, Nat.le_of_ble_eq_true rfl⟩) hG (fun r_27 S_28 H locs hp hG => ?_)
    obtain ⟨rfl, rfl⟩ := hp
    have hG : mW X mo ad (mNo S 5) s H locs := hG
    exact m_iret hx hb hr hlocks hG (by first | (exfalso; omega) | exact (hX.noR 5 (by unfold opRemarkOf; all_goals ((repeat (first | rw [if_pos (by omega)] | rw [if_neg (by omega)])) <;> rfl)))) ⟨Nat.le_of_ble_eq_true rfl, Nat.le_of_ble_eq_true rfl⟩ dX4_remarkOf_14

set_option maxHeartbeats 4000000 in
theorem metX4_settle {l : Launch} {X : gX} {mo : Nat} {ad : Nat → Nat} {S : mS} {a : aS} (hX : mX S a) (hA : aOK a) {x z : Int} (hr0 : -2147483648 ≤ x ∧ x < 2147483648 ∧ -2147483648 ≤ z ∧ z < 2147483648) : Met l yX4_settle (ws_ yX4_settle cX4_settle 4 (some FieldType.int)) ({ frames := 2, cells := 0, slots := 0, locals := 43 }) (mP X mo ad S [.ref mo, .int (zI x), .int (zI z)]) (mQi X mo ad (fun u T => u = zI (opSettle a x z).1 ∧ mX T (opSettle a x z).2)) 0 0 (mA mo ad) := by
  refine Met.m (by decide) (Nat.le_of_ble_eq_true rfl) ?_
  intro p e s m below meth c ls hx hb hr hts hown hlocks hml hG hl
  have hl : lv_has ls 4 [(0, .ref mo), (1, .int (zI x)), (2, .int (zI z))] := hl
  have hNN := hA.w.n
  have hMM := hA.w.m
  refine lv_aload_n hx hb dX4_settle_0 rfl (lv_at hl 0 rfl) ?_
  refine lv_iload_n hx hb dX4_settle_1 rfl (lv_at hl 1 rfl) ?_
  have hq1 := hX.o.m
  have hQ1 := hA.w.m
  refine m_ci (va_runV (As := [.int (zI x)]) (rest := []) ⟨hx, hb, hml, hown, hts⟩ (metX4_isRemark (by omega) (by omega)) (cwV 1 hts (lw_V q3455 q3457 qs46 q102 q3458) rfl rfl rfl (by decide +kernel) ⟨Nat.le_of_ble_eq_true rfl, Nat.le_of_ble_eq_true rfl⟩) (m_preV hG) rfl rfl hl.1 rfl (lv_room (Nat.le_of_ble_eq_true rfl)) dX4_settle_2 ⟨Nat.le_of_ble_eq_true rfl, Nat.le_of_ble_eq_true rfl⟩) hG (fun r_1 S_2 H locs hp hG => ?_)
  obtain ⟨b1, rfl, hb1, rfl⟩ := hp
  have hG : mW X mo ad S s H locs := hG
  refine g_ne (tgt := 14) hx hb dX4_settle_5 (by decide) (by omega) (fun h2 => ?_) (fun h2 => ?_)
  · obtain ⟨x1, rfl⟩ : ∃ n9 : Nat, x = n9 := ⟨x.toNat, by omega⟩
    refine lv_aload_n hx hb dX4_settle_14 rfl (lv_at hl 0 rfl) ?_
    refine lv_bipush (v := zI 6) hx hb dX4_settle_15 (by decide +kernel) ?_
    refine lv_iload_n hx hb dX4_settle_17 rfl (lv_at hl 1 rfl) ?_
    refine m_ci (va_runV (As := [.int (zI 6), .int (zI (x1 : Int))]) (rest := []) ⟨hx, hb, hml, hown, hts⟩ (metX4_of 6 (m0 := x1) (by omega)) (cwV 2 hts (lw_V q3467 q3469 qs47 q102 q3470) rfl rfl rfl (by decide +kernel) ⟨Nat.le_of_ble_eq_true rfl, Nat.le_of_ble_eq_true rfl⟩) (m_preV hG) rfl rfl hl.1 rfl (lv_room (Nat.le_of_ble_eq_true rfl)) dX4_settle_18 ⟨Nat.le_of_ble_eq_true rfl, Nat.le_of_ble_eq_true rfl⟩) hG (fun r_3 S_4 H locs hp hG => ?_)
    obtain ⟨rfl, rfl⟩ := hp
    have hG : mW X mo ad S s H locs := hG
    refine g_topz (y := (bI (wSt (aWd a) x1))) (hX.o.st (m := x1) (by omega)) ?_
    have hv3 : bI (wSt (aWd a) x1) = 0 ∨ bI (wSt (aWd a) x1) = 1 := by cases wSt (aWd a) x1 <;> simp [bI]
    refine lv_istore_n (lv' := [(3, .int (zI (bI (wSt (aWd a) x1)))), (0, .ref mo), (1, .int (zI (x1 : Int))), (2, .int (zI z))]) hx hb dX4_settle_21 rfl hl (by decide) rfl (fun ls hl => ?_)
    refine lv_aload_n hx hb dX4_settle_22 rfl (lv_at hl 1 rfl) ?_
    refine m_get 6 (by decide) (v := .ref (ad 6)) rfl hx hb hts hown hG (hts _ q3302) dX4_settle_23 ?_
    refine lv_bipush (v := zI 96) hx hb dX4_settle_26 (by decide +kernel) ?_
    refine lv_iload_n hx hb dX4_settle_28 rfl (lv_at hl 2 rfl) ?_
    refine g_iadd hx hb dX4_settle_29 ?_
    refine lv_iload_n hx hb dX4_settle_30 rfl (lv_at hl 3 rfl) ?_
    refine g_eq (tgt := 38) hx hb dX4_settle_31 (by decide) (by omega) (fun h4 => ?_) (fun h4 => ?_)
    · refine lv_iconst (v := zI 0) hx hb dX4_settle_38 (by decide +kernel) ?_
      refine m_iast 6 rfl rfl (by decide) (96 + x1) ⟨by omega, by show _ < 112; omega⟩ hx hb hG dX4_settle_39 (fun H locs (hG : mW X mo ad (sA S 6 (96 + x1) 0) s H locs) => ?_)
      refine lv_iload_n hx hb dX4_settle_40 rfl (lv_at hl 0 rfl) ?_
      exact m_iret hx hb hr hlocks hG (by first | (exfalso; omega) | exact (by rw [show opSettle a x1 z = (bI (wSt (aWd a) x1), aSetW a (wSettle (aWd a) x1 false)) from (by unfold opSettle; rw [if_neg (by omega), decide_eq_false (by omega : ¬ z ≠ 0)]; rfl)]; exact ⟨rfl, hX.tk (hX.o.tk (fun k hk => ⟨fun _ => rfl, fun q => sA_o q, rfl⟩) rfl rfl hX.o.m (fun y hy => by have q := hX.o.2.2.2.1 y hy; refine ⟨(sA_n (by have : y < wM (aWd a) := hy; omega)).trans q.1, (sA_n (by have : y < wM (aWd a) := hy; omega)).trans q.2.1, (sA_n (by have : y < wM (aWd a) := hy; omega)).trans q.2.2.1, (sA_n (by have : y < wM (aWd a) := hy; omega)).trans q.2.2.2.1, (sA_n (by have : y < wM (aWd a) := hy; omega)).trans q.2.2.2.2.1, (sA_n (by have : y < wM (aWd a) := hy; omega)).trans q.2.2.2.2.2.1, ?_⟩; show _ = bI (va_up (wSt (aWd a)) x1 false y); by_cases hyx : y = x1; (subst hyx; rw [sA_s, va_up_self]; rfl); rw [sA_n (by omega), va_up_ne _ _ hyx]; exact q.2.2.2.2.2.2)) (fun k hk => ⟨fun _ => rfl, fun q => sA_o q, rfl⟩)⟩)) ⟨Nat.le_of_ble_eq_true rfl, Nat.le_of_ble_eq_true rfl⟩ dX4_settle_41
    · refine lv_iconst (v := zI 1) hx hb dX4_settle_34 (by decide +kernel) ?_
      refine lv_goto (tgt := 39) hx hb dX4_settle_35 (by decide) ?_
      refine m_iast 6 rfl rfl (by decide) (96 + x1) ⟨by omega, by show _ < 112; omega⟩ hx hb hG dX4_settle_39 (fun H locs (hG : mW X mo ad (sA S 6 (96 + x1) 1) s H locs) => ?_)
      refine lv_iload_n hx hb dX4_settle_40 rfl (lv_at hl 0 rfl) ?_
      exact m_iret hx hb hr hlocks hG (by first | (exfalso; omega) | exact (by rw [show opSettle a x1 z = (bI (wSt (aWd a) x1), aSetW a (wSettle (aWd a) x1 true)) from (by unfold opSettle; rw [if_neg (by omega), decide_eq_true (by omega : z ≠ 0)]; rfl)]; exact ⟨rfl, hX.tk (hX.o.tk (fun k hk => ⟨fun _ => rfl, fun q => sA_o q, rfl⟩) rfl rfl hX.o.m (fun y hy => by have q := hX.o.2.2.2.1 y hy; refine ⟨(sA_n (by have : y < wM (aWd a) := hy; omega)).trans q.1, (sA_n (by have : y < wM (aWd a) := hy; omega)).trans q.2.1, (sA_n (by have : y < wM (aWd a) := hy; omega)).trans q.2.2.1, (sA_n (by have : y < wM (aWd a) := hy; omega)).trans q.2.2.2.1, (sA_n (by have : y < wM (aWd a) := hy; omega)).trans q.2.2.2.2.1, (sA_n (by have : y < wM (aWd a) := hy; omega)).trans q.2.2.2.2.2.1, ?_⟩; show _ = bI (va_up (wSt (aWd a)) x1 true y); by_cases hyx : y = x1; (subst hyx; rw [sA_s, va_up_self]; rfl); rw [sA_n (by omega), va_up_ne _ _ hyx]; exact q.2.2.2.2.2.2)) (fun k hk => ⟨fun _ => rfl, fun q => sA_o q, rfl⟩)⟩)) ⟨Nat.le_of_ble_eq_true rfl, Nat.le_of_ble_eq_true rfl⟩ dX4_settle_41
  · refine lv_aload_n hx hb dX4_settle_8 rfl (lv_at hl 0 rfl) ?_
    refine lv_iconst (v := zI (-1)) hx hb dX4_settle_9 (by decide +kernel) ?_
    refine g_topz (y := -((1 : Nat) : Int)) (by decide) ?_
    refine m_ci (va_runV (As := [.int (zI (-((1 : Nat) : Int)))]) (rest := []) ⟨hx, hb, hml, hown, hts⟩ (metX4_no 1 (by decide)) (cwV 1 hts (lw_V q3427 q3429 qs43 q102 q3430) rfl rfl rfl (by decide +kernel) ⟨Nat.le_of_ble_eq_true rfl, Nat.le_of_ble_eq_true rfl⟩) (m_preV hG) rfl rfl hl.1 rfl (lv_room (Nat.le_of_ble_eq_true rfl)) dX4_settle_10 ⟨Nat.le_of_ble_eq_true rfl, Nat.le_of_ble_eq_true rfl⟩) hG (fun r_5 S_6 H locs hp hG => ?_)
    obtain ⟨rfl, rfl⟩ := hp
    have hG : mW X mo ad (mNo S 1) s H locs := hG
    exact m_iret hx hb hr hlocks hG (by first | (exfalso; omega) | exact (hX.noR 1 (by unfold opSettle; all_goals ((repeat (first | rw [if_pos (by omega)] | rw [if_neg (by omega)])) <;> rfl)))) ⟨Nat.le_of_ble_eq_true rfl, Nat.le_of_ble_eq_true rfl⟩ dX4_settle_13

