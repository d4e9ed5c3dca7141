set_option maxRecDepth 100000
def cpF (f g : Nat → Int64) (i j n : Nat) : Nat → Int64 := fun z => if j ≤ z ∧ z < j + n then f (z - j + i) else g z
def opCopy (a : aS) (v y i j n : Int) : Int × aS := if ¬ ((0 ≤ v ∧ v ≤ 7) ∧ 0 ≤ y ∧ y ≤ 7) then aNoR a 1 else
  match aSv a v.toNat, aSv a y.toNat with
  | some (.inl _), _ => aNoR a 2
  | none, some (.inl _) => aNoR a 2
  | some (.inr _), some (.inl _) => aNoR a 2
  | none, none => aNoR a 3
  | none, some (.inr _) => aNoR a 3
  | some (.inr _), none => aNoR a 3
  | some (.inr (so, nv, f)), some (.inr (su, ny, g)) => if so ≠ su then aNoR a 2 else if n < 0 then aNoR a 4 else if ¬ (0 ≤ i ∧ 0 ≤ j ∧ i + n ≤ nv ∧ j + n ≤ ny) then aNoR a 5 else (1, aSet a y.toNat (some (.inr (su, ny, cpF f g i.toNat j.toNat n.toNat))))
set_option maxHeartbeats 4000000 in
theorem metX4_copy {l : Launch} {X : gX} {mo : Nat} {ad : Nat → Nat} {S : mS} {a : aS} (hX : mX S a) (hA : aOK a) {v y i j n : Int} (hr0 : -2147483648 ≤ v ∧ v < 2147483648 ∧ -2147483648 ≤ y ∧ y < 2147483648 ∧ -2147483648 ≤ i ∧ i < 2147483648 ∧ -2147483648 ≤ j ∧ j < 2147483648 ∧ -2147483648 ≤ n ∧ n < 2147483648) : Met l yX4_copy (ws_ yX4_copy cX4_copy 7 (some FieldType.int)) ({ frames := 1, cells := 0, slots := 0, locals := 22 }) (mP X mo ad S [.ref mo, .int (zI v), .int (zI y), .int (zI i), .int (zI j), .int (zI n)]) (mQi X mo ad (fun u T => u = zI (opCopy a v y i j n).1 ∧ mX T (opCopy a v y i j n).2)) 0 0 (mA mo ad) := by
  refine Met.m (by decide) (Nat.le_of_ble_eq_true rfl) ?_
  intro p e s m below meth c ls hx hb hr hts hown hlocks hml hG hl
  have hl : lv_has ls 7 [(0, .ref mo), (1, .int (zI v)), (2, .int (zI y)), (3, .int (zI i)), (4, .int (zI j)), (5, .int (zI n))] := hl
  have hNN := hA.w.n
  have hMM := hA.w.m
  refine lv_iload_n hx hb dX4_copy_0 rfl (lv_at hl 1 rfl) ?_
  refine lv_iconst (v := zI 0) hx hb dX4_copy_1 (by decide +kernel) ?_
  refine lv_bipush (v := zI 7) hx hb dX4_copy_2 (by decide +kernel) ?_
  refine m_ci (va_runS (As := [.int (zI v), .int (zI 0), .int (zI 7)]) (rest := []) ⟨hx, hb, hml, hown, hts⟩ (metX4_within (by omega)) (va_cwS 3 hts (lw_S q3424 q3425 q102 q3426) rfl rfl rfl (by decide +kernel) ⟨Nat.le_of_ble_eq_true rfl, Nat.le_of_ble_eq_true rfl⟩) (m_preS hG) rfl rfl hl.1 rfl (lv_room (Nat.le_of_ble_eq_true rfl)) dX4_copy_4 ⟨Nat.le_of_ble_eq_true rfl, Nat.le_of_ble_eq_true rfl⟩) hG (fun r_1 S_2 H locs hp hG => ?_)
  obtain ⟨bw1, rfl, hbw1, rfl⟩ := hp
  have hG : mW X mo ad S s H locs := hG
  refine g_eq (tgt := 20) hx hb dX4_copy_7 (by decide) (by omega) (fun h2 => ?_) (fun h2 => ?_)
  · refine lv_aload_n hx hb dX4_copy_20 rfl (lv_at hl 0 rfl) ?_
    refine lv_iconst (v := zI (-1)) hx hb dX4_copy_21 (by decide +kernel) ?_
    refine g_topz (y := -((1 : Nat) : Int)) (by decide) ?_
    refine m_ci (va_runV (As := [.int (zI (-((1 : Nat) : Int)))]) (rest := []) ⟨hx, hb, hml, hown, hts⟩ (metX4_no 1 (by decide)) (cwV 1 hts (lw_V q3427 q3429 qs43 q102 q3430) rfl rfl rfl (by decide +kernel) ⟨Nat.le_of_ble_eq_true rfl, Nat.le_of_ble_eq_true rfl⟩) (m_preV hG) rfl rfl hl.1 rfl (lv_room (Nat.le_of_ble_eq_true rfl)) dX4_copy_22 ⟨Nat.le_of_ble_eq_true rfl, Nat.le_of_ble_eq_true rfl⟩) hG (fun r_3 S_4 H locs hp hG => ?_)
    obtain ⟨rfl, rfl⟩ := hp
    have hG : mW X mo ad (mNo S 1) s H locs := hG
    exact m_iret hx hb hr hlocks hG (by first | (exfalso; omega) | exact (hX.noR 1 (by unfold opCopy; all_goals ((repeat (first | rw [if_pos (by omega)] | rw [if_neg (by omega)])) <;> rfl)))) ⟨Nat.le_of_ble_eq_true rfl, Nat.le_of_ble_eq_true rfl⟩ dX4_copy_25
  · refine lv_iload_n hx hb dX4_copy_10 rfl (lv_at hl 2 rfl) ?_
    refine lv_iconst (v := zI 0) hx hb dX4_copy_11 (by decide +kernel) ?_
    refine lv_bipush (v := zI 7) hx hb dX4_copy_12 (by decide +kernel) ?_
    refine m_ci (va_runS (As := [.int (zI y), .int (zI 0), .int (zI 7)]) (rest := []) ⟨hx, hb, hml, hown, hts⟩ (metX4_within (by omega)) (va_cwS 3 hts (lw_S q3424 q3425 q102 q3426) rfl rfl rfl (by decide +kernel) ⟨Nat.le_of_ble_eq_true rfl, Nat.le_of_ble_eq_true rfl⟩) (m_preS hG) rfl rfl hl.1 rfl (lv_room (Nat.le_of_ble_eq_true rfl)) dX4_copy_14 ⟨Nat.le_of_ble_eq_true rfl, Nat.le_of_ble_eq_true rfl⟩) hG (fun r_5 S_6 H locs hp hG => ?_)
    obtain ⟨bw3, rfl, hbw3, rfl⟩ := hp
    have hG : mW X mo ad S s H locs := hG
    refine g_ne (tgt := 26) hx hb dX4_copy_17 (by decide) (by omega) (fun h4 => ?_) (fun h4 => ?_)
    · obtain ⟨v1, rfl⟩ : ∃ n9 : Nat, v = n9 := ⟨v.toNat, by omega⟩
      have hshv := hX.2.2.1 v1 (by omega)
      have hokv := hA.2.1 v1
      rcases hsvv : aSv a v1 with _ | mv | ⟨sov, nv, fv⟩
      · rw [hsvv] at hshv
        have hshv : S.2.1 9 v1 = -1 := hshv
        obtain ⟨y1, rfl⟩ : ∃ n9 : Nat, y = n9 := ⟨y.toNat, by omega⟩
        have hshy := hX.2.2.1 y1 (by omega)
        have hoky := hA.2.1 y1
        rcases hsvy : aSv a y1 with _ | my | ⟨soy, ny, fy⟩
        · rw [hsvy] at hshy
          have hshy : S.2.1 9 y1 = -1 := hshy
          refine lv_aload_n hx hb dX4_copy_26 rfl (lv_at hl 0 rfl) ?_
          refine m_get 9 (by decide) (v := .ref (ad 9)) rfl hx hb hts hown hG (hts _ q3305) dX4_copy_27 ?_
          refine lv_iload_n hx hb dX4_copy_30 rfl (lv_at hl 1 rfl) ?_
          refine m_iald 9 rfl rfl (by decide) v1 (v := -1) ⟨by omega, by show _ < 8; omega⟩ (show S.2.1 9 v1 = -1 from hshv) hx hb hG dX4_copy_31 ?_
          refine g_lt (tgt := 43) hx hb dX4_copy_32 (by decide) (by decide) (fun h5 => ?_) (fun h5 => ?_)
          · refine lv_aload_n hx hb dX4_copy_43 rfl (lv_at hl 0 rfl) ?_
            refine m_get 9 (by decide) (v := .ref (ad 9)) rfl hx hb hts hown hG (hts _ q3305) dX4_copy_44 ?_
            refine lv_iload_n hx hb dX4_copy_47 rfl (lv_at hl 2 rfl) ?_
            refine m_iald 9 rfl rfl (by decide) y1 (v := -1) ⟨by omega, by show _ < 8; omega⟩ (show S.2.1 9 y1 = -1 from hshy) hx hb hG dX4_copy_48 ?_
            refine g_lt (tgt := 60) hx hb dX4_copy_49 (by decide) (by decide) (fun h6 => ?_) (fun h6 => ?_)
            · refine lv_aload_n hx hb dX4_copy_60 rfl (lv_at hl 0 rfl) ?_
              refine lv_iload_n hx hb dX4_copy_61 rfl (lv_at hl 1 rfl) ?_
              have hq7 := hX.hold hA v1 (by omega)
              refine m_ci (va_runV (As := [.int (zI (v1 : Int))]) (rest := []) ⟨hx, hb, hml, hown, hts⟩ (metX4_isRow (k := v1) (by omega)) (cwV 1 hts (lw_V q3439 q3441 qs45 q102 q3442) rfl rfl rfl (by decide +kernel) ⟨Nat.le_of_ble_eq_true rfl, Nat.le_of_ble_eq_true rfl⟩) (m_preV hG) rfl rfl hl.1 rfl (lv_room (Nat.le_of_ble_eq_true rfl)) dX4_copy_62 ⟨Nat.le_of_ble_eq_true rfl, Nat.le_of_ble_eq_true rfl⟩) hG (fun r_7 S_8 H locs hp hG => ?_)
              obtain ⟨b7, rfl, hb7, rfl⟩ := hp
              have hG : mW X mo ad S s H locs := hG
              refine g_topz (y := 0) (by omega) ?_
              refine g_eq (tgt := 98) hx hb dX4_copy_65 (by decide) (by decide) (fun h8 => ?_) (fun h8 => ?_)
              · refine lv_aload_n hx hb dX4_copy_98 rfl (lv_at hl 0 rfl) ?_
                refine m_get 9 (by decide) (v := .ref (ad 9)) rfl hx hb hts hown hG (hts _ q3305) dX4_copy_99 ?_
                refine lv_iload_n hx hb dX4_copy_102 rfl (lv_at hl 1 rfl) ?_
                refine m_iald 9 rfl rfl (by decide) v1 (v := -1) ⟨by omega, by show _ < 8; omega⟩ (show S.2.1 9 v1 = -1 from hshv) hx hb hG dX4_copy_103 ?_
                refine g_lt (tgt := 116) hx hb dX4_copy_104 (by decide) (by decide) (fun h9 => ?_) (fun h9 => ?_)
                · refine lv_aload_n hx hb dX4_copy_116 rfl (lv_at hl 0 rfl) ?_
                  refine lv_bipush (v := zI (-3)) hx hb dX4_copy_117 (by decide +kernel) ?_
                  refine g_topz (y := -((3 : Nat) : Int)) (by decide) ?_
                  refine m_ci (va_runV (As := [.int (zI (-((3 : Nat) : Int)))]) (rest := []) ⟨hx, hb, hml, hown, hts⟩ (metX4_no 3 (by decide)) (cwV 1 hts (lw_V q3427 q3429 qs43 q102 q3430) rfl rfl rfl (by decide +kernel) ⟨Nat.le_of_ble_eq_true rfl, Nat.le_of_ble_eq_true rfl⟩) (m_preV hG) rfl rfl hl.1 rfl (lv_room (Nat.le_of_ble_eq_true rfl)) dX4_copy_119 ⟨Nat.le_of_ble_eq_true rfl, Nat.le_of_ble_eq_true rfl⟩) hG (fun r_9 S_10 H locs hp hG => ?_)
                  obtain ⟨rfl, rfl⟩ := hp
                  have hG : mW X mo ad (mNo S 3) s H locs := hG
                  exact m_iret hx hb hr hlocks hG (by first | (exfalso; omega) | exact (hX.noR 3 (by unfold opCopy; (repeat (first | rw [if_pos (by omega)] | rw [if_neg (by omega)])); all_goals (try (simp only [Int.toNat_natCast, hsvv, hsvy])); all_goals ((repeat (first | rw [if_pos (by omega)] | rw [if_neg (by omega)])) <;> rfl)))) ⟨Nat.le_of_ble_eq_true rfl, Nat.le_of_ble_eq_true rfl⟩ dX4_copy_122
                · exfalso; omega
              · exfalso; omega
            · exfalso; omega
          · exfalso; omega
        · rw [hsvy] at hshy hoky
          have hshy : S.2.1 9 y1 = (my : Nat) := hshy
          have hoky : my < wM (aWd a) := hoky
          have hMy := hA.w.m
          refine lv_aload_n hx hb dX4_copy_26 rfl (lv_at hl 0 rfl) ?_
          refine m_get 9 (by decide) (v := .ref (ad 9)) rfl hx hb hts hown hG (hts _ q3305) dX4_copy_27 ?_
          refine lv_iload_n hx hb dX4_copy_30 rfl (lv_at hl 1 rfl) ?_
          refine m_iald 9 rfl rfl (by decide) v1 (v := -1) ⟨by omega, by show _ < 8; omega⟩ (show S.2.1 9 v1 = -1 from hshv) hx hb hG dX4_copy_31 ?_
          refine g_lt (tgt := 43) hx hb dX4_copy_32 (by decide) (by decide) (fun h10 => ?_) (fun h10 => ?_)
          · refine lv_aload_n hx hb dX4_copy_43 rfl (lv_at hl 0 rfl) ?_
            refine m_get 9 (by decide) (v := .ref (ad 9)) rfl hx hb hts hown hG (hts _ q3305) dX4_copy_44 ?_
            refine lv_iload_n hx hb dX4_copy_47 rfl (lv_at hl 2 rfl) ?_
            refine m_iald 9 rfl rfl (by decide) y1 (v := (my : Int)) ⟨by omega, by show _ < 8; omega⟩ (show S.2.1 9 y1 = (my : Int) from hshy) hx hb hG dX4_copy_48 ?_
            refine g_lt (tgt := 60) hx hb dX4_copy_49 (by decide) (by omega) (fun h11 => ?_) (fun h11 => ?_)
            · exfalso; omega
            · refine lv_aload_n hx hb dX4_copy_52 rfl (lv_at hl 0 rfl) ?_
              refine lv_iload_n hx hb dX4_copy_53 rfl (lv_at hl 2 rfl) ?_
              have hq12 := hX.hold hA y1 (by omega)
              refine m_ci (va_runV (As := [.int (zI (y1 : Int))]) (rest := []) ⟨hx, hb, hml, hown, hts⟩ (metX4_isRow (k := y1) (by omega)) (cwV 1 hts (lw_V q3439 q3441 qs45 q102 q3442) rfl rfl rfl (by decide +kernel) ⟨Nat.le_of_ble_eq_true rfl, Nat.le_of_ble_eq_true rfl⟩) (m_preV hG) rfl rfl hl.1 rfl (lv_room (Nat.le_of_ble_eq_true rfl)) dX4_copy_54 ⟨Nat.le_of_ble_eq_true rfl, Nat.le_of_ble_eq_true rfl⟩) hG (fun r_11 S_12 H locs hp hG => ?_)
              obtain ⟨b12, rfl, hb12, rfl⟩ := hp
              have hG : mW X mo ad S s H locs := hG
              refine g_topz (y := 0) (by omega) ?_
              refine g_eq (tgt := 91) hx hb dX4_copy_57 (by decide) (by decide) (fun h13 => ?_) (fun h13 => ?_)
              · refine lv_aload_n hx hb dX4_copy_91 rfl (lv_at hl 0 rfl) ?_
                refine lv_bipush (v := zI (-2)) hx hb dX4_copy_92 (by decide +kernel) ?_
                refine g_topz (y := -((2 : Nat) : Int)) (by decide) ?_
                refine m_ci (va_runV (As := [.int (zI (-((2 : Nat) : Int)))]) (rest := []) ⟨hx, hb, hml, hown, hts⟩ (metX4_no 2 (by decide)) (cwV 1 hts (lw_V q3427 q3429 qs43 q102 q3430) rfl rfl rfl (by decide +kernel) ⟨Nat.le_of_ble_eq_true rfl, Nat.le_of_ble_eq_true rfl⟩) (m_preV hG) rfl rfl hl.1 rfl (lv_room (Nat.le_of_ble_eq_true rfl)) dX4_copy_94 ⟨Nat.le_of_ble_eq_true rfl, Nat.le_of_ble_eq_true rfl⟩) hG (fun r_13 S_14 H locs hp hG => ?_)
                obtain ⟨rfl, rfl⟩ := hp
                have hG : mW X mo ad (mNo S 2) s H locs := hG
                exact m_iret hx hb hr hlocks hG (by first | (exfalso; omega) | exact (hX.noR 2 (by unfold opCopy; (repeat (first | rw [if_pos (by omega)] | rw [if_neg (by omega)])); all_goals (try (simp only [Int.toNat_natCast, hsvv, hsvy])); all_goals ((repeat (first | rw [if_pos (by omega)] | rw [if_neg (by omega)])) <;> rfl)))) ⟨Nat.le_of_ble_eq_true rfl, Nat.le_of_ble_eq_true rfl⟩ dX4_copy_97
              · exfalso; omega
          · exfalso; omega
        · rw [hsvy] at hshy hoky
          obtain ⟨hshy, hlny, hely⟩ := hshy
          have hoky : soy ≤ 3 ∧ ny ≤ 160 := hoky
          refine lv_aload_n hx hb dX4_copy_26 rfl (lv_at hl 0 rfl) ?_
          refine m_get 9 (by decide) (v := .ref (ad 9)) rfl hx hb hts hown hG (hts _ q3305) dX4_copy_27 ?_
          refine lv_iload_n hx hb dX4_copy_30 rfl (lv_at hl 1 rfl) ?_
          refine m_iald 9 rfl rfl (by decide) v1 (v := -1) ⟨by omega, by show _ < 8; omega⟩ (show S.2.1 9 v1 = -1 from hshv) hx hb hG dX4_copy_31 ?_
          refine g_lt (tgt := 43) hx hb dX4_copy_32 (by decide) (by decide) (fun h14 => ?_) (fun h14 => ?_)
          · refine lv_aload_n hx hb dX4_copy_43 rfl (lv_at hl 0 rfl) ?_
            refine m_get 9 (by decide) (v := .ref (ad 9)) rfl hx hb hts hown hG (hts _ q3305) dX4_copy_44 ?_
            refine lv_iload_n hx hb dX4_copy_47 rfl (lv_at hl 2 rfl) ?_
            refine m_iald 9 rfl rfl (by decide) y1 (v := (100 + (soy : Int))) ⟨by omega, by show _ < 8; omega⟩ (show S.2.1 9 y1 = (100 + (soy : Int)) from hshy) hx hb hG dX4_copy_48 ?_
            refine g_lt (tgt := 60) hx hb dX4_copy_49 (by decide) (by omega) (fun h15 => ?_) (fun h15 => ?_)
            · exfalso; omega
            · refine lv_aload_n hx hb dX4_copy_52 rfl (lv_at hl 0 rfl) ?_
              refine lv_iload_n hx hb dX4_copy_53 rfl (lv_at hl 2 rfl) ?_
              have hq16 := hX.hold hA y1 (by omega)
              refine m_ci (va_runV (As := [.int (zI (y1 : Int))]) (rest := []) ⟨hx, hb, hml, hown, hts⟩ (metX4_isRow (k := y1) (by omega)) (cwV 1 hts (lw_V q3439 q3441 qs45 q102 q3442) rfl rfl rfl (by decide +kernel) ⟨Nat.le_of_ble_eq_true rfl, Nat.le_of_ble_eq_true rfl⟩) (m_preV hG) rfl rfl hl.1 rfl (lv_room (Nat.le_of_ble_eq_true rfl)) dX4_copy_54 ⟨Nat.le_of_ble_eq_true rfl, Nat.le_of_ble_eq_true rfl⟩) hG (fun r_15 S_16 H locs hp hG => ?_)
              obtain ⟨b16, rfl, hb16, rfl⟩ := hp
              have hG : mW X mo ad S s H locs := hG
              refine g_topz (y := 1) (by omega) ?_
              refine g_eq (tgt := 91) hx hb dX4_copy_57 (by decide) (by decide) (fun h17 => ?_) (fun h17 => ?_)
              · exfalso; omega
              · refine lv_aload_n hx hb dX4_copy_60 rfl (lv_at hl 0 rfl) ?_
                refine lv_iload_n hx hb dX4_copy_61 rfl (lv_at hl 1 rfl) ?_
                have hq18 := hX.hold hA v1 (by omega)
                refine m_ci (va_runV (As := [.int (zI (v1 : Int))]) (rest := []) ⟨hx, hb, hml, hown, hts⟩ (metX4_isRow (k := v1) (by omega)) (cwV 1 hts (lw_V q3439 q3441 qs45 q102 q3442) rfl rfl rfl (by decide +kernel) ⟨Nat.le_of_ble_eq_true rfl, Nat.le_of_ble_eq_true rfl⟩) (m_preV hG) rfl rfl hl.1 rfl (lv_room (Nat.le_of_ble_eq_true rfl)) dX4_copy_62 ⟨Nat.le_of_ble_eq_true rfl, Nat.le_of_ble_eq_true rfl⟩) hG (fun r_17 S_18 H locs hp hG => ?_)
                obtain ⟨b18, rfl, hb18, rfl⟩ := hp
                have hG : mW X mo ad S s H locs := hG
                refine g_topz (y := 0) (by omega) ?_
                refine g_eq (tgt := 98) hx hb dX4_copy_65 (by decide) (by decide) (fun h19 => ?_) (fun h19 => ?_)
                · refine lv_aload_n hx hb dX4_copy_98 rfl (lv_at hl 0 rfl) ?_
                  refine m_get 9 (by decide) (v := .ref (ad 9)) rfl hx hb hts hown hG (hts _ q3305) dX4_copy_99 ?_
                  refine lv_iload_n hx hb dX4_copy_102 rfl (lv_at hl 1 rfl) ?_
                  refine m_iald 9 rfl rfl (by decide) v1 (v := -1) ⟨by omega, by show _ < 8; omega⟩ (show S.2.1 9 v1 = -1 from hshv) hx hb hG dX4_copy_103 ?_
                  refine g_lt (tgt := 116) hx hb dX4_copy_104 (by decide) (by decide) (fun h20 => ?_) (fun h20 => ?_)
                  · refine lv_aload_n hx hb dX4_copy_116 rfl (lv_at hl 0 rfl) ?_
                    refine lv_bipush (v := zI (-3)) hx hb dX4_copy_117 (by decide +kernel) ?_
                    refine g_topz (y := -((3 : Nat) : Int)) (by decide) ?_
                    refine m_ci (va_runV (As := [.int (zI (-((3 : Nat) : Int)))]) (rest := []) ⟨hx, hb, hml, hown, hts⟩ (metX4_no 3 (by decide)) (cwV 1 hts (lw_V q3427 q3429 qs43 q102 q3430) rfl rfl rfl (by decide +kernel) ⟨Nat.le_of_ble_eq_true rfl, Nat.le_of_ble_eq_true rfl⟩) (m_preV hG) rfl rfl hl.1 rfl (lv_room (Nat.le_of_ble_eq_true rfl)) dX4_copy_119 ⟨Nat.le_of_ble_eq_true rfl, Nat.le_of_ble_eq_true rfl⟩) hG (fun r_19 S_20 H locs hp hG => ?_)
                    obtain ⟨rfl, rfl⟩ := hp
                    have hG : mW X mo ad (mNo S 3) s H locs := hG
                    exact m_iret hx hb hr hlocks hG (by first | (exfalso; omega) | exact (hX.noR 3 (by unfold opCopy; (repeat (first | rw [if_pos (by omega)] | rw [if_neg (by omega)])); all_goals (try (simp only [Int.toNat_natCast, hsvv, hsvy])); all_goals ((repeat (first | rw [if_pos (by omega)] | rw [if_neg (by omega)])) <;> rfl)))) ⟨Nat.le_of_ble_eq_true rfl, Nat.le_of_ble_eq_true rfl⟩ dX4_copy_122
                  · exfalso; omega
                · exfalso; omega
          · exfalso; omega
      · rw [hsvv] at hshv hokv
        have hshv : S.2.1 9 v1 = (mv : Nat) := hshv
        have hokv : mv < wM (aWd a) := hokv
        have hMv := hA.w.m
        obtain ⟨y1, rfl⟩ : ∃ n9 : Nat, y = n9 := ⟨y.toNat, by omega⟩
        have hshy := hX.2.2.1 y1 (by omega)
        have hoky := hA.2.1 y1
        rcases hsvy : aSv a y1 with _ | my | ⟨soy, ny, fy⟩
        · rw [hsvy] at hshy
          have hshy : S.2.1 9 y1 = -1 := hshy
          refine lv_aload_n hx hb dX4_copy_26 rfl (lv_at hl 0 rfl) ?_
          refine m_get 9 (by decide) (v := .ref (ad 9)) rfl hx hb hts hown hG (hts _ q3305) dX4_copy_27 ?_
          refine lv_iload_n hx hb dX4_copy_30 rfl (lv_at hl 1 rfl) ?_
          refine m_iald 9 rfl rfl (by decide) v1 (v := (mv : Int)) ⟨by omega, by show _ < 8; omega⟩ (show S.2.1 9 v1 = (mv : Int) from hshv) hx hb hG dX4_copy_31 ?_
          refine g_lt (tgt := 43) hx hb dX4_copy_32 (by decide) (by omega) (fun h21 => ?_) (fun h21 => ?_)
          · exfalso; omega
          · refine lv_aload_n hx hb dX4_copy_35 rfl (lv_at hl 0 rfl) ?_
            refine lv_iload_n hx hb dX4_copy_36 rfl (lv_at hl 1 rfl) ?_
            have hq22 := hX.hold hA v1 (by omega)
            refine m_ci (va_runV (As := [.int (zI (v1 : Int))]) (rest := []) ⟨hx, hb, hml, hown, hts⟩ (metX4_isRow (k := v1) (by omega)) (cwV 1 hts (lw_V q3439 q3441 qs45 q102 q3442) rfl rfl rfl (by decide +kernel) ⟨Nat.le_of_ble_eq_true rfl, Nat.le_of_ble_eq_true rfl⟩) (m_preV hG) rfl rfl hl.1 rfl (lv_room (Nat.le_of_ble_eq_true rfl)) dX4_copy_37 ⟨Nat.le_of_ble_eq_true rfl, Nat.le_of_ble_eq_true rfl⟩) hG (fun r_21 S_22 H locs hp hG => ?_)
            obtain ⟨b22, rfl, hb22, rfl⟩ := hp
            have hG : mW X mo ad S s H locs := hG
            refine g_topz (y := 0) (by omega) ?_
            refine g_eq (tgt := 91) hx hb dX4_copy_40 (by decide) (by decide) (fun h23 => ?_) (fun h23 => ?_)
            · refine lv_aload_n hx hb dX4_copy_91 rfl (lv_at hl 0 rfl) ?_
              refine lv_bipush (v := zI (-2)) hx hb dX4_copy_92 (by decide +kernel) ?_
              refine g_topz (y := -((2 : Nat) : Int)) (by decide) ?_
              refine m_ci (va_runV (As := [.int (zI (-((2 : Nat) : Int)))]) (rest := []) ⟨hx, hb, hml, hown, hts⟩ (metX4_no 2 (by decide)) (cwV 1 hts (lw_V q3427 q3429 qs43 q102 q3430) rfl rfl rfl (by decide +kernel) ⟨Nat.le_of_ble_eq_true rfl, Nat.le_of_ble_eq_true rfl⟩) (m_preV hG) rfl rfl hl.1 rfl (lv_room (Nat.le_of_ble_eq_true rfl)) dX4_copy_94 ⟨Nat.le_of_ble_eq_true rfl, Nat.le_of_ble_eq_true rfl⟩) hG (fun r_23 S_24 H locs hp hG => ?_)
              obtain ⟨rfl, rfl⟩ := hp
              have hG : mW X mo ad (mNo S 2) s H locs := hG
              exact m_iret hx hb hr hlocks hG (by first | (exfalso; omega) | exact (hX.noR 2 (by unfold opCopy; (repeat (first | rw [if_pos (by omega)] | rw [if_neg (by omega)])); all_goals (try (simp only [Int.toNat_natCast, hsvv, hsvy])); all_goals ((repeat (first | rw [if_pos (by omega)] | rw [if_neg (by omega)])) <;> rfl)))) ⟨Nat.le_of_ble_eq_true rfl, Nat.le_of_ble_eq_true rfl⟩ dX4_copy_97
            · exfalso; omega
        · rw [hsvy] at hshy hoky
          have hshy : S.2.1 9 y1 = (my : Nat) := hshy
          have hoky : my < wM (aWd a) := hoky
          have hMy := hA.w.m
          refine lv_aload_n hx hb dX4_copy_26 rfl (lv_at hl 0 rfl) ?_
          refine m_get 9 (by decide) (v := .ref (ad 9)) rfl hx hb hts hown hG (hts _ q3305) dX4_copy_27 ?_
          refine lv_iload_n hx hb dX4_copy_30 rfl (lv_at hl 1 rfl) ?_
          refine m_iald 9 rfl rfl (by decide) v1 (v := (mv : Int)) ⟨by omega, by show _ < 8; omega⟩ (show S.2.1 9 v1 = (mv : Int) from hshv) hx hb hG dX4_copy_31 ?_
          refine g_lt (tgt := 43) hx hb dX4_copy_32 (by decide) (by omega) (fun h24 => ?_) (fun h24 => ?_)
          · exfalso; omega
          · refine lv_aload_n hx hb dX4_copy_35 rfl (lv_at hl 0 rfl) ?_
            refine lv_iload_n hx hb dX4_copy_36 rfl (lv_at hl 1 rfl) ?_
            have hq25 := hX.hold hA v1 (by omega)
            refine m_ci (va_runV (As := [.int (zI (v1 : Int))]) (rest := []) ⟨hx, hb, hml, hown, hts⟩ (metX4_isRow (k := v1) (by omega)) (cwV 1 hts (lw_V q3439 q3441 qs45 q102 q3442) rfl rfl rfl (by decide +kernel) ⟨Nat.le_of_ble_eq_true rfl, Nat.le_of_ble_eq_true rfl⟩) (m_preV hG) rfl rfl hl.1 rfl (lv_room (Nat.le_of_ble_eq_true rfl)) dX4_copy_37 ⟨Nat.le_of_ble_eq_true rfl, Nat.le_of_ble_eq_true rfl⟩) hG (fun r_25 S_26 H locs hp hG => ?_)
            obtain ⟨b25, rfl, hb25, rfl⟩ := hp
            have hG : mW X mo ad S s H locs := hG
            refine g_topz (y := 0) (by omega) ?_
            refine g_eq (tgt := 91) hx hb dX4_copy_40 (by decide) (by decide) (fun h26 => ?_) (fun h26 => ?_)
            · refine lv_aload_n hx hb dX4_copy_91 rfl (lv_at hl 0 rfl) ?_
              refine lv_bipush (v := zI (-2)) hx hb dX4_copy_92 (by decide +kernel) ?_
              refine g_topz (y := -((2 : Nat) : Int)) (by decide) ?_
              refine m_ci (va_runV (As := [.int (zI (-((2 : Nat) : Int)))]) (rest := []) ⟨hx, hb, hml, hown, hts⟩ (metX4_no 2 (by decide)) (cwV 1 hts (lw_V q3427 q3429 qs43 q102 q3430) rfl rfl rfl (by decide +kernel) ⟨Nat.le_of_ble_eq_true rfl, Nat.le_of_ble_eq_true rfl⟩) (m_preV hG) rfl rfl hl.1 rfl (lv_room (Nat.le_of_ble_eq_true rfl)) dX4_copy_94 ⟨Nat.le_of_ble_eq_true rfl, Nat.le_of_ble_eq_true rfl⟩) hG (fun r_27 S_28 H locs hp hG => ?_)
              obtain ⟨rfl, rfl⟩ := hp
              have hG : mW X mo ad (mNo S 2) s H locs := hG
              exact m_iret hx hb hr hlocks hG (by first | (exfalso; omega) | exact (hX.noR 2 (by unfold opCopy; (repeat (first | rw [if_pos (by omega)] | rw [if_neg (by omega)])); all_goals (try (simp only [Int.toNat_natCast, hsvv, hsvy])); all_goals ((repeat (first | rw [if_pos (by omega)] | rw [if_neg (by omega)])) <;> rfl)))) ⟨Nat.le_of_ble_eq_true rfl, Nat.le_of_ble_eq_true rfl⟩ dX4_copy_97
            · exfalso; omega
        · rw [hsvy] at hshy hoky
          obtain ⟨hshy, hlny, hely⟩ := hshy
          have hoky : soy ≤ 3 ∧ ny ≤ 160 := hoky
          refine lv_aload_n hx hb dX4_copy_26 rfl (lv_at hl 0 rfl) ?_
          refine m_get 9 (by decide) (v := .ref (ad 9)) rfl hx hb hts hown hG (hts _ q3305) dX4_copy_27 ?_
          refine lv_iload_n hx hb dX4_copy_30 rfl (lv_at hl 1 rfl) ?_
          refine m_iald 9 rfl rfl (by decide) v1 (v := (mv : Int)) ⟨by omega, by show _ < 8; omega⟩ (show S.2.1 9 v1 = (mv : Int) from hshv) hx hb hG dX4_copy_31 ?_
          refine g_lt (tgt := 43) hx hb dX4_copy_32 (by decide) (by omega) (fun h27 => ?_) (fun h27 => ?_)
          · exfalso; omega
          · refine lv_aload_n hx hb dX4_copy_35 rfl (lv_at hl 0 rfl) ?_
            refine lv_iload_n hx hb dX4_copy_36 rfl (lv_at hl 1 rfl) ?_
            have hq28 := hX.hold hA v1 (by omega)
            refine m_ci (va_runV (As := [.int (zI (v1 : Int))]) (rest := []) ⟨hx, hb, hml, hown, hts⟩ (metX4_isRow (k := v1) (by omega)) (cwV 1 hts (lw_V q3439 q3441 qs45 q102 q3442) rfl rfl rfl (by decide +kernel) ⟨Nat.le_of_ble_eq_true rfl, Nat.le_of_ble_eq_true rfl⟩) (m_preV hG) rfl rfl hl.1 rfl (lv_room (Nat.le_of_ble_eq_true rfl)) dX4_copy_37 ⟨Nat.le_of_ble_eq_true rfl, Nat.le_of_ble_eq_true rfl⟩) hG (fun r_29 S_30 H locs hp hG => ?_)
            obtain ⟨b28, rfl, hb28, rfl⟩ := hp
            have hG : mW X mo ad S s H locs := hG
            refine g_topz (y := 0) (by omega) ?_
            refine g_eq (tgt := 91) hx hb dX4_copy_40 (by decide) (by decide) (fun h29 => ?_) (fun h29 => ?_)
            · refine lv_aload_n hx hb dX4_copy_91 rfl (lv_at hl 0 rfl) ?_
              refine lv_bipush (v := zI (-2)) hx hb dX4_copy_92 (by decide +kernel) ?_
              refine g_topz (y := -((2 : Nat) : Int)) (by decide) ?_
              refine m_ci (va_runV (As := [.int (zI (-((2 : Nat) : Int)))]) (rest := []) ⟨hx, hb, hml, hown, hts⟩ (metX4_no 2 (by decide)) (cwV 1 hts (lw_V q3427 q3429 qs43 q102 q3430) rfl rfl rfl (by decide +kernel) ⟨Nat.le_of_ble_eq_true rfl, Nat.le_of_ble_eq_true rfl⟩) (m_preV hG) rfl rfl hl.1 rfl (lv_room (Nat.le_of_ble_eq_true rfl)) dX4_copy_94 ⟨Nat.le_of_ble_eq_true rfl, Nat.le_of_ble_eq_true rfl⟩) hG (fun r_31 S_32 H locs hp hG => ?_)
              obtain ⟨rfl, rfl⟩ := hp
              have hG : mW X mo ad (mNo S 2) s H locs := hG
              exact m_iret hx hb hr hlocks hG (by first | (exfalso; omega) | exact (hX.noR 2 (by unfold opCopy; (repeat (first | rw [if_pos (by omega)] | rw [if_neg (by omega)])); all_goals (try (simp only [Int.toNat_natCast, hsvv, hsvy])); all_goals ((repeat (first | rw [if_pos (by omega)] | rw [if_neg (by omega)])) <;> rfl)))) ⟨Nat.le_of_ble_eq_true rfl, Nat.le_of_ble_eq_true rfl⟩ dX4_copy_97
            · exfalso; omega
      · rw [hsvv] at hshv hokv
        obtain ⟨hshv, hlnv, helv⟩ := hshv
        have hokv : sov ≤ 3 ∧ nv ≤ 160 := hokv
        obtain ⟨y1, rfl⟩ : ∃ n9 : Nat, y = n9 := ⟨y.toNat, by omega⟩
        have hshy := hX.2.2.1 y1 (by omega)
        have hoky := hA.2.1 y1
        rcases hsvy : aSv a y1 with _ | my | ⟨soy, ny, fy⟩
        · rw [hsvy] at hshy
          have hshy : S.2.1 9 y1 = -1 := hshy
          refine lv_aload_n hx hb dX4_copy_26 rfl (lv_at hl 0 rfl) ?_
          refine m_get 9 (by decide) (v := .ref (ad 9)) rfl hx hb hts hown hG (hts _ q3305) dX4_copy_27 ?_
          refine lv_iload_n hx hb dX4_copy_30 rfl (lv_at hl 1 rfl) ?_
          refine m_iald 9 rfl rfl (by decide) v1 (v := (100 + (sov : Int))) ⟨by omega, by show _ < 8; omega⟩ (show S.2.1 9 v1 = (100 + (sov : Int)) from hshv) hx hb hG dX4_copy_31 ?_
          refine g_lt (tgt := 43) hx hb dX4_copy_32 (by decide) (by omega) (fun h30 => ?_) (fun h30 => ?_)
          · exfalso; omega
          · refine lv_aload_n hx hb dX4_copy_35 rfl (lv_at hl 0 rfl) ?_
            refine lv_iload_n hx hb dX4_copy_36 rfl (lv_at hl 1 rfl) ?_
            have hq31 := hX.hold hA v1 (by omega)
            refine m_ci (va_runV (As := [.int (zI (v1 : Int))]) (rest := []) ⟨hx, hb, hml, hown, hts⟩ (metX4_isRow (k := v1) (by omega)) (cwV 1 hts (lw_V q3439 q3441 qs45 q102 q3442) rfl rfl rfl (by decide +kernel) ⟨Nat.le_of_ble_eq_true rfl, Nat.le_of_ble_eq_true rfl⟩) (m_preV hG) rfl rfl hl.1 rfl (lv_room (Nat.le_of_ble_eq_true rfl)) dX4_copy_37 ⟨Nat.le_of_ble_eq_true rfl, Nat.le_of_ble_eq_true rfl⟩) hG (fun r_33 S_34 H locs hp hG => ?_)
            obtain ⟨b31, rfl, hb31, rfl⟩ := hp
            have hG : mW X mo ad S s H locs := hG
            refine g_topz (y := 1) (by omega) ?_
            refine g_eq (tgt := 91) hx hb dX4_copy_40 (by decide) (by decide) (fun h32 => ?_) (fun h32 => ?_)
            · exfalso; omega
            · refine lv_aload_n hx hb dX4_copy_43 rfl (lv_at hl 0 rfl) ?_
              refine m_get 9 (by decide) (v := .ref (ad 9)) rfl hx hb hts hown hG (hts _ q3305) dX4_copy_44 ?_
              refine lv_iload_n hx hb dX4_copy_47 rfl (lv_at hl 2 rfl) ?_
              refine m_iald 9 rfl rfl (by decide) y1 (v := -1) ⟨by omega, by show _ < 8; omega⟩ (show S.2.1 9 y1 = -1 from hshy) hx hb hG dX4_copy_48 ?_
              refine g_lt (tgt := 60) hx hb dX4_copy_49 (by decide) (by decide) (fun h33 => ?_) (fun h33 => ?_)
              · refine lv_aload_n hx hb dX4_copy_60 rfl (lv_at hl 0 rfl) ?_
                refine lv_iload_n hx hb dX4_copy_61 rfl (lv_at hl 1 rfl) ?_
                have hq34 := hX.hold hA v1 (by omega)
                refine m_ci (va_runV (As := [.int (zI (v1 : Int))]) (rest := []) ⟨hx, hb, hml, hown, hts⟩ (metX4_isRow (k := v1) (by omega)) (cwV 1 hts (lw_V q3439 q3441 qs45 q102 q3442) rfl rfl rfl (by decide +kernel) ⟨Nat.le_of_ble_eq_true rfl, Nat.le_of_ble_eq_true rfl⟩) (m_preV hG) rfl rfl hl.1 rfl (lv_room (Nat.le_of_ble_eq_true rfl)) dX4_copy_62 ⟨Nat.le_of_ble_eq_true rfl, Nat.le_of_ble_eq_true rfl⟩) hG (fun r_35 S_36 H locs hp hG => ?_)
                obtain ⟨b34, rfl, hb34, rfl⟩ := hp
                have hG : mW X mo ad S s H locs := hG
                refine g_topz (y := 1) (by omega) ?_
                refine g_eq (tgt := 98) hx hb dX4_copy_65 (by decide) (by decide) (fun h35 => ?_) (fun h35 => ?_)
                · exfalso; omega
                · refine lv_aload_n hx hb dX4_copy_68 rfl (lv_at hl 0 rfl) ?_
                  refine lv_iload_n hx hb dX4_copy_69 rfl (lv_at hl 2 rfl) ?_
                  have hq36 := hX.hold hA y1 (by omega)
                  refine m_ci (va_runV (As := [.int (zI (y1 : Int))]) (rest := []) ⟨hx, hb, hml, hown, hts⟩ (metX4_isRow (k := y1) (by omega)) (cwV 1 hts (lw_V q3439 q3441 qs45 q102 q3442) rfl rfl rfl (by decide +kernel) ⟨Nat.le_of_ble_eq_true rfl, Nat.le_of_ble_eq_true rfl⟩) (m_preV hG) rfl rfl hl.1 rfl (lv_room (Nat.le_of_ble_eq_true rfl)) dX4_copy_70 ⟨Nat.le_of_ble_eq_true rfl, Nat.le_of_ble_eq_true rfl⟩) hG (fun r_37 S_38 H locs hp hG => ?_)
                  obtain ⟨b36, rfl, hb36, rfl⟩ := hp
                  have hG : mW X mo ad S s H locs := hG
                  refine g_topz (y := 0) (by omega) ?_
                  refine g_eq (tgt := 98) hx hb dX4_copy_73 (by decide) (by decide) (fun h37 => ?_) (fun h37 => ?_)
                  · refine lv_aload_n hx hb dX4_copy_98 rfl (lv_at hl 0 rfl) ?_
                    refine m_get 9 (by decide) (v := .ref (ad 9)) rfl hx hb hts hown hG (hts _ q3305) dX4_copy_99 ?_
                    refine lv_iload_n hx hb dX4_copy_102 rfl (lv_at hl 1 rfl) ?_
                    refine m_iald 9 rfl rfl (by decide) v1 (v := (100 + (sov : Int))) ⟨by omega, by show _ < 8; omega⟩ (show S.2.1 9 v1 = (100 + (sov : Int)) from hshv) hx hb hG dX4_copy_103 ?_
                    refine g_lt (tgt := 116) hx hb dX4_copy_104 (by decide) (by omega) (fun h38 => ?_) (fun h38 => ?_)
                    · exfalso; omega
                    · refine lv_aload_n hx hb dX4_copy_107 rfl (lv_at hl 0 rfl) ?_
                      refine m_get 9 (by decide) (v := .ref (ad 9)) rfl hx hb hts hown hG (hts _ q3305) dX4_copy_108 ?_
                      refine lv_iload_n hx hb dX4_copy_111 rfl (lv_at hl 2 rfl) ?_
                      refine m_iald 9 rfl rfl (by decide) y1 (v := -1) ⟨by omega, by show _ < 8; omega⟩ (show S.2.1 9 y1 = -1 from hshy) hx hb hG dX4_copy_112 ?_
                      refine g_ge (tgt := 123) hx hb dX4_copy_113 (by decide) (by decide) (fun h39 => ?_) (fun h39 => ?_)
                      · exfalso; omega
                      · refine lv_aload_n hx hb dX4_copy_116 rfl (lv_at hl 0 rfl) ?_
                        refine lv_bipush (v := zI (-3)) hx hb dX4_copy_117 (by decide +kernel) ?_
                        refine g_topz (y := -((3 : Nat) : Int)) (by decide) ?_
                        refine m_ci (va_runV (As := [.int (zI (-((3 : Nat) : Int)))]) (rest := []) ⟨hx, hb, hml, hown, hts⟩ (metX4_no 3 (by decide)) (cwV 1 hts (lw_V q3427 q3429 qs43 q102 q3430) rfl rfl rfl (by decide +kernel) ⟨Nat.le_of_ble_eq_true rfl, Nat.le_of_ble_eq_true rfl⟩) (m_preV hG) rfl rfl hl.1 rfl (lv_room (Nat.le_of_ble_eq_true rfl)) dX4_copy_119 ⟨Nat.le_of_ble_eq_true rfl, Nat.le_of_ble_eq_true rfl⟩) hG (fun r_39 S_40 H locs hp hG => ?_)
                        obtain ⟨rfl, rfl⟩ := hp
                        have hG : mW X mo ad (mNo S 3) s H locs := hG
                        exact m_iret hx hb hr hlocks hG (by first | (exfalso; omega) | exact (hX.noR 3 (by unfold opCopy; (repeat (first | rw [if_pos (by omega)] | rw [if_neg (by omega)])); all_goals (try (simp only [Int.toNat_natCast, hsvv, hsvy])); all_goals ((repeat (first | rw [if_pos (by omega)] | rw [if_neg (by omega)])) <;> rfl)))) ⟨Nat.le_of_ble_eq_true rfl, Nat.le_of_ble_eq_true rfl⟩ dX4_copy_122
                  · exfalso; omega
              · exfalso; omega
        · rw [hsvy] at hshy hoky
          have hshy : S.2.1 9 y1 = (my : Nat) := hshy
          have hoky : my < wM (aWd a) := hoky
          have hMy := hA.w.m
          refine lv_aload_n hx hb dX4_copy_26 rfl (lv_at hl 0 rfl) ?_
          refine m_get 9 (by decide) (v := .ref (ad 9)) rfl hx hb hts hown hG (hts _ q3305) dX4_copy_27 ?_
          refine lv_iload_n hx hb dX4_copy_30 rfl (lv_at hl 1 rfl) ?_
          refine m_iald 9 rfl rfl (by decide) v1 (v := (100 + (sov : Int))) ⟨by omega, by show _ < 8; omega⟩ (show S.2.1 9 v1 = (100 + (sov : Int)) from hshv) hx hb hG dX4_copy_31 ?_
          refine g_lt (tgt := 43) hx hb dX4_copy_32 (by decide) (by omega) (fun h40 => ?_) (fun h40 => ?_)
          · exfalso; omega
          · refine lv_aload_n hx hb dX4_copy_35 rfl (lv_at hl 0 rfl) ?_
            refine lv_iload_n hx hb dX4_copy_36 rfl (lv_at hl 1 rfl) ?_
            have hq41 := hX.hold hA v1 (by omega)
            refine m_ci (va_runV (As := [.int (zI (v1 : Int))]) (rest := []) ⟨hx, hb, hml, hown, hts⟩ (metX4_isRow (k := v1) (by omega)) (cwV 1 hts (lw_V q3439 q3441 qs45 q102 q3442) rfl rfl rfl (by decide +kernel) ⟨Nat.le_of_ble_eq_true rfl, Nat.le_of_ble_eq_true rfl⟩) (m_preV hG) rfl rfl hl.1 rfl (lv_room (Nat.le_of_ble_eq_true rfl)) dX4_copy_37 ⟨Nat.le_of_ble_eq_true rfl, Nat.le_of_ble_eq_true rfl⟩) hG (fun r_41 S_42 H locs hp hG => ?_)
            obtain ⟨b41, rfl, hb41, rfl⟩ := hp
            have hG : mW X mo ad S s H locs := hG
            refine g_topz (y := 1) (by omega) ?_
            refine g_eq (tgt := 91) hx hb dX4_copy_40 (by decide) (by decide) (fun h42 => ?_) (fun h42 => ?_)
            · exfalso; omega
            · refine lv_aload_n hx hb dX4_copy_43 rfl (lv_at hl 0 rfl) ?_
              refine m_get 9 (by decide) (v := .ref (ad 9)) rfl hx hb hts hown hG (hts _ q3305) dX4_copy_44 ?_
              refine lv_iload_n hx hb dX4_copy_47 rfl (lv_at hl 2 rfl) ?_
              refine m_iald 9 rfl rfl (by decide) y1 (v := (my : Int)) ⟨by omega, by show _ < 8; omega⟩ (show S.2.1 9 y1 = (my : Int) from hshy) hx hb hG dX4_copy_48 ?_
              refine g_lt (tgt := 60) hx hb dX4_copy_49 (by decide) (by omega) (fun h43 => ?_) (fun h43 => ?_)
              · exfalso; omega
              · refine lv_aload_n hx hb dX4_copy_52 rfl (lv_at hl 0 rfl) ?_
                refine lv_iload_n hx hb dX4_copy_53 rfl (lv_at hl 2 rfl) ?_
                have hq44 := hX.hold hA y1 (by omega)
                refine m_ci (va_runV (As := [.int (zI (y1 : Int))]) (rest := []) ⟨hx, hb, hml, hown, hts⟩ (metX4_isRow (k := y1) (by omega)) (cwV 1 hts (lw_V q3439 q3441 qs45 q102 q3442) rfl rfl rfl (by decide +kernel) ⟨Nat.le_of_ble_eq_true rfl, Nat.le_of_ble_eq_true rfl⟩) (m_preV hG) rfl rfl hl.1 rfl (lv_room (Nat.le_of_ble_eq_true rfl)) dX4_copy_54 ⟨Nat.le_of_ble_eq_true rfl, Nat.le_of_ble_eq_true rfl⟩) hG (fun r_43 S_44 H locs hp hG => ?_)
                obtain ⟨b44, rfl, hb44, rfl⟩ := hp
                have hG : mW X mo ad S s H locs := hG
                refine g_topz (y := 0) (by omega) ?_
                refine g_eq (tgt := 91) hx hb dX4_copy_57 (by decide) (by decide) (fun h45 => ?_) (fun h45 => ?_)
                · refine lv_aload_n hx hb dX4_copy_91 rfl (lv_at hl 0 rfl) ?_
                  refine lv_bipush (v := zI (-2)) hx hb dX4_copy_92 (by decide +kernel) ?_
                  refine g_topz (y := -((2 : Nat) : Int)) (by decide) ?_
                  refine m_ci (va_runV (As := [.int (zI (-((2 : Nat) : Int)))]) (rest := []) ⟨hx, hb, hml, hown, hts⟩ (metX4_no 2 (by decide)) (cwV 1 hts (lw_V q3427 q3429 qs43 q102 q3430) rfl rfl rfl (by decide +kernel) ⟨Nat.le_of_ble_eq_true rfl, Nat.le_of_ble_eq_true rfl⟩) (m_preV hG) rfl rfl hl.1 rfl (lv_room (Nat.le_of_ble_eq_true rfl)) dX4_copy_94 ⟨Nat.le_of_ble_eq_true rfl, Nat.le_of_ble_eq_true rfl⟩) hG (fun r_45 S_46 H locs hp hG => ?_)
                  obtain ⟨rfl, rfl⟩ := hp
                  have hG : mW X mo ad (mNo S 2) s H locs := hG
                  exact m_iret hx hb hr hlocks hG (by first | (exfalso; omega) | exact (hX.noR 2 (by unfold opCopy; (repeat (first | rw [if_pos (by omega)] | rw [if_neg (by omega)])); all_goals (try (simp only [Int.toNat_natCast, hsvv, hsvy])); all_goals ((repeat (first | rw [if_pos (by omega)] | rw [if_neg (by omega)])) <;> rfl)))) ⟨Nat.le_of_ble_eq_true rfl, Nat.le_of_ble_eq_true rfl⟩ dX4_copy_97
                · exfalso; omega
        · rw [hsvy] at hshy hoky
          obtain ⟨hshy, hlny, hely⟩ := hshy
          have hoky : soy ≤ 3 ∧ ny ≤ 160 := hoky
          refine lv_aload_n hx hb dX4_copy_26 rfl (lv_at hl 0 rfl) ?_
          refine m_get 9 (by decide) (v := .ref (ad 9)) rfl hx hb hts hown hG (hts _ q3305) dX4_copy_27 ?_
          refine lv_iload_n hx hb dX4_copy_30 rfl (lv_at hl 1 rfl) ?_
          refine m_iald 9 rfl rfl (by decide) v1 (v := (100 + (sov : Int))) ⟨by omega, by show _ < 8; omega⟩ (show S.2.1 9 v1 = (100 + (sov : Int)) from hshv) hx hb hG dX4_copy_31 ?_
          refine g_lt (tgt := 43) hx hb dX4_copy_32 (by decide) (by omega) (fun h46 => ?_) (fun h46 => ?_)
          · exfalso; omega
          · refine lv_aload_n hx hb dX4_copy_35 rfl (lv_at hl 0 rfl) ?_
            refine lv_iload_n hx hb dX4_copy_36 rfl (lv_at hl 1 rfl) ?_
            have hq47 := hX.hold hA v1 (by omega)
            refine m_ci (va_runV (As := [.int (zI (v1 : Int))]) (rest := []) ⟨hx, hb, hml, hown, hts⟩ (metX4_isRow (k := v1) (by omega)) (cwV 1 hts (lw_V q3439 q3441 qs45 q102 q3442) rfl rfl rfl (by decide +kernel) ⟨Nat.le_of_ble_eq_true rfl, Nat.le_of_ble_eq_true rfl⟩) (m_preV hG) rfl rfl hl.1 rfl (lv_room (Nat.le_of_ble_eq_true rfl)) dX4_copy_37 ⟨Nat.le_of_ble_eq_true rfl, Nat.le_of_ble_eq_true rfl⟩) hG (fun r_47 S_48 H locs hp hG => ?_)
            obtain ⟨b47, rfl, hb47, rfl⟩ := hp
            have hG : mW X mo ad S s H locs := hG
            refine g_topz (y := 1) (by omega) ?_
            refine g_eq (tgt := 91) hx hb dX4_copy_40 (by decide) (by decide) (fun h48 => ?_) (fun h48 => ?_)
            · exfalso; omega
            · refine lv_aload_n hx hb dX4_copy_43 rfl (lv_at hl 0 rfl) ?_
              refine m_get 9 (by decide) (v := .ref (ad 9)) rfl hx hb hts hown hG (hts _ q3305) dX4_copy_44 ?_
              refine lv_iload_n hx hb dX4_copy_47 rfl (lv_at hl 2 rfl) ?_
              refine m_iald 9 rfl rfl (by decide) y1 (v := (100 + (soy : Int))) ⟨by omega, by show _ < 8; omega⟩ (show S.2.1 9 y1 = (100 + (soy : Int)) from hshy) hx hb hG dX4_copy_48 ?_
              refine g_lt (tgt := 60) hx hb dX4_copy_49 (by decide) (by omega) (fun h49 => ?_) (fun h49 => ?_)
              · exfalso; omega
              · refine lv_aload_n hx hb dX4_copy_52 rfl (lv_at hl 0 rfl) ?_
                refine lv_iload_n hx hb dX4_copy_53 rfl (lv_at hl 2 rfl) ?_
                have hq50 := hX.hold hA y1 (by omega)
                refine m_ci (va_runV (As := [.int (zI (y1 : Int))]) (rest := []) ⟨hx, hb, hml, hown, hts⟩ (metX4_isRow (k := y1) (by omega)) (cwV 1 hts (lw_V q3439 q3441 qs45 q102 q3442) rfl rfl rfl (by decide +kernel) ⟨Nat.le_of_ble_eq_true rfl, Nat.le_of_ble_eq_true rfl⟩) (m_preV hG) rfl rfl hl.1 rfl (lv_room (Nat.le_of_ble_eq_true rfl)) dX4_copy_54 ⟨Nat.le_of_ble_eq_true rfl, Nat.le_of_ble_eq_true rfl⟩) hG (fun r_49 S_50 H locs hp hG => ?_)
                obtain ⟨b50, rfl, hb50, rfl⟩ := hp
                have hG : mW X mo ad S s H locs := hG
                refine g_topz (y := 1) (by omega) ?_
                refine g_eq (tgt := 91) hx hb dX4_copy_57 (by decide) (by decide) (fun h51 => ?_) (fun h51 => ?_)
                · exfalso; omega
                · refine lv_aload_n hx hb dX4_copy_60 rfl (lv_at hl 0 rfl) ?_
                  refine lv_iload_n hx hb dX4_copy_61 rfl (lv_at hl 1 rfl) ?_
                  have hq52 := hX.hold hA v1 (by omega)
                  refine m_ci (va_runV (As := [.int (zI (v1 : Int))]) (rest := []) ⟨hx, hb, hml, hown, hts⟩ (metX4_isRow (k := v1) (by omega)) (cwV 1 hts (lw_V q3439 q3441 qs45 q102 q3442) rfl rfl rfl (by decide +kernel) ⟨Nat.le_of_ble_eq_true rfl, Nat.le_of_ble_eq_true rfl⟩) (m_preV hG) rfl rfl hl.1 rfl (lv_room (Nat.le_of_ble_eq_true rfl)) dX4_copy_62 ⟨Nat.le_of_ble_eq_true rfl, Nat.le_of_ble_eq_true rfl⟩) hG (fun r_51 S_52 H locs hp hG => ?_)
                  obtain ⟨b52, rfl, hb52, rfl⟩ := hp
                  have hG : mW X mo ad S s H locs := hG
                  refine g_topz (y := 1) (by omega) ?_
                  refine g_eq (tgt := 98) hx hb dX4_copy_65 (by decide) (by decide) (fun h53 => ?_) (fun h53 => ?_)
                  · exfalso; omega
                  · refine lv_aload_n hx hb dX4_copy_68 rfl (lv_at hl 0 rfl) ?_
                    refine lv_iload_n hx hb dX4_copy_69 rfl (lv_at hl 2 rfl) ?_
                    have hq54 := hX.hold hA y1 (by omega)
                    refine m_ci (va_runV (As := [.int (zI (y1 : Int))]) (rest := []) ⟨hx, hb, hml, hown, hts⟩ (metX4_isRow (k := y1) (by omega)) (cwV 1 hts (lw_V q3439 q3441 qs45 q102 q3442) rfl rfl rfl (by decide +kernel) ⟨Nat.le_of_ble_eq_true rfl, Nat.le_of_ble_eq_true rfl⟩) (m_preV hG) rfl rfl hl.1 rfl (lv_room (Nat.le_of_ble_eq_true rfl)) dX4_copy_70 ⟨Nat.le_of_ble_eq_true rfl, Nat.le_of_ble_eq_true rfl⟩) hG (fun r_53 S_54 H locs hp hG => ?_)
                    obtain ⟨b54, rfl, hb54, rfl⟩ := hp
                    have hG : mW X mo ad S s H locs := hG
                    refine g_topz (y := 1) (by omega) ?_
                    refine g_eq (tgt := 98) hx hb dX4_copy_73 (by decide) (by decide) (fun h55 => ?_) (fun h55 => ?_)
                    · exfalso; omega
                    · refine lv_aload_n hx hb dX4_copy_76 rfl (lv_at hl 0 rfl) ?_
                      refine m_get 9 (by decide) (v := .ref (ad 9)) rfl hx hb hts hown hG (hts _ q3305) dX4_copy_77 ?_
                      refine lv_iload_n hx hb dX4_copy_80 rfl (lv_at hl 1 rfl) ?_
                      refine m_iald 9 rfl rfl (by decide) v1 (v := (100 + (sov : Int))) ⟨by omega, by show _ < 8; omega⟩ (show S.2.1 9 v1 = (100 + (sov : Int)) from hshv) hx hb hG dX4_copy_81 ?_
                      refine lv_aload_n hx hb dX4_copy_82 rfl (lv_at hl 0 rfl) ?_
                      refine m_get 9 (by decide) (v := .ref (ad 9)) rfl hx hb hts hown hG (hts _ q3305) dX4_copy_83 ?_
                      refine lv_iload_n hx hb dX4_copy_86 rfl (lv_at hl 2 rfl) ?_
                      refine m_iald 9 rfl rfl (by decide) y1 (v := (100 + (soy : Int))) ⟨by omega, by show _ < 8; omega⟩ (show S.2.1 9 y1 = (100 + (soy : Int)) from hshy) hx hb hG dX4_copy_87 ?_
                      refine g_ceq (tgt := 98) hx hb dX4_copy_88 (by decide) (by omega) (fun h56 => ?_) (fun h56 => ?_)
                      · refine lv_aload_n hx hb dX4_copy_98 rfl (lv_at hl 0 rfl) ?_
                        refine m_get 9 (by decide) (v := .ref (ad 9)) rfl hx hb hts hown hG (hts _ q3305) dX4_copy_99 ?_
                        refine lv_iload_n hx hb dX4_copy_102 rfl (lv_at hl 1 rfl) ?_
                        refine m_iald 9 rfl rfl (by decide) v1 (v := (100 + (sov : Int))) ⟨by omega, by show _ < 8; omega⟩ (show S.2.1 9 v1 = (100 + (sov : Int)) from hshv) hx hb hG dX4_copy_103 ?_
                        refine g_lt (tgt := 116) hx hb dX4_copy_104 (by decide) (by omega) (fun h57 => ?_) (fun h57 => ?_)
                        · exfalso; omega
                        · refine lv_aload_n hx hb dX4_copy_107 rfl (lv_at hl 0 rfl) ?_
                          refine m_get 9 (by decide) (v := .ref (ad 9)) rfl hx hb hts hown hG (hts _ q3305) dX4_copy_108 ?_
                          refine lv_iload_n hx hb dX4_copy_111 rfl (lv_at hl 2 rfl) ?_
                          refine m_iald 9 rfl rfl (by decide) y1 (v := (100 + (soy : Int))) ⟨by omega, by show _ < 8; omega⟩ (show S.2.1 9 y1 = (100 + (soy : Int)) from hshy) hx hb hG dX4_copy_112 ?_
                          refine g_ge (tgt := 123) hx hb dX4_copy_113 (by decide) (by omega) (fun h58 => ?_) (fun h58 => ?_)
                          · refine lv_iload hx hb dX4_copy_123 (lv_at hl 5 rfl) ?_
                            refine g_ge (tgt := 135) hx hb dX4_copy_125 (by decide) (by omega) (fun h59 => ?_) (fun h59 => ?_)
                            · obtain ⟨n1, rfl⟩ : ∃ n9 : Nat, n = n9 := ⟨n.toNat, by omega⟩
                              refine lv_iload_n hx hb dX4_copy_135 rfl (lv_at hl 3 rfl) ?_
                              refine g_lt (tgt := 179) hx hb dX4_copy_136 (by decide) (by omega) (fun h60 => ?_) (fun h60 => ?_)
                              · refine lv_aload_n hx hb dX4_copy_179 rfl (lv_at hl 0 rfl) ?_
                                refine lv_bipush (v := zI (-5)) hx hb dX4_copy_180 (by decide +kernel) ?_
                                refine g_topz (y := -((5 : Nat) : Int)) (by decide) ?_
                                refine m_ci (va_runV (As := [.int (zI (-((5 : Nat) : Int)))]) (rest := []) ⟨hx, hb, hml, hown, hts⟩ (metX4_no 5 (by decide)) (cwV 1 hts (lw_V q3427 q3429 qs43 q102 q3430) rfl rfl rfl (by decide +kernel) ⟨Nat.le_of_ble_eq_true rfl, Nat.le_of_ble_eq_true rfl⟩) (m_preV hG) rfl rfl hl.1 rfl (lv_room (Nat.le_of_ble_eq_true rfl)) dX4_copy_182 ⟨Nat.le_of_ble_eq_true rfl, Nat.le_of_ble_eq_true rfl⟩) hG (fun r_55 S_56 H locs hp hG => ?_)
                                obtain ⟨rfl, rfl⟩ := hp
                                have hG : mW X mo ad (mNo S 5) s H locs := hG
                                exact m_iret hx hb hr hlocks hG (by first | (exfalso; omega) | exact (hX.noR 5 (by unfold opCopy; (repeat (first | rw [if_pos (by omega)] | rw [if_neg (by omega)])); all_goals (try (simp only [Int.toNat_natCast, hsvv, hsvy])); all_goals ((repeat (first | rw [if_pos (by omega)] | rw [if_neg (by omega)])) <;> rfl)))) ⟨Nat.le_of_ble_eq_true rfl, Nat.le_of_ble_eq_true rfl⟩ dX4_copy_185
                              · obtain ⟨i1, rfl⟩ : ∃ n9 : Nat, i = n9 := ⟨i.toNat, by omega⟩
                                refine lv_iload hx hb dX4_copy_139 (lv_at hl 4 rfl) ?_
                                refine g_lt (tgt := 179) hx hb dX4_copy_141 (by decide) (by omega) (fun h61 => ?_) (fun h61 => ?_)
                                · refine lv_aload_n hx hb dX4_copy_179 rfl (lv_at hl 0 rfl) ?_
                                  refine lv_bipush (v := zI (-5)) hx hb dX4_copy_180 (by decide +kernel) ?_
                                  refine g_topz (y := -((5 : Nat) : Int)) (by decide) ?_
                                  refine m_ci (va_runV (As := [.int (zI (-((5 : Nat) : Int)))]) (rest := []) ⟨hx, hb, hml, hown, hts⟩ (metX4_no 5 (by decide)) (cwV 1 hts (lw_V q3427 q3429 qs43 q102 q3430) rfl rfl rfl (by decide +kernel) ⟨Nat.le_of_ble_eq_true rfl, Nat.le_of_ble_eq_true rfl⟩) (m_preV hG) rfl rfl hl.1 rfl (lv_room (Nat.le_of_ble_eq_true rfl)) dX4_copy_182 ⟨Nat.le_of_ble_eq_true rfl, Nat.le_of_ble_eq_true rfl⟩) hG (fun r_57 S_58 H locs hp hG => ?_)
                                  obtain ⟨rfl, rfl⟩ := hp
                                  have hG : mW X mo ad (mNo S 5) s H locs := hG
                                  exact m_iret hx hb hr hlocks hG (by first | (exfalso; omega) | exact (hX.noR 5 (by unfold opCopy; (repeat (first | rw [if_pos (by omega)] | rw [if_neg (by omega)])); all_goals (try (simp only [Int.toNat_natCast, hsvv, hsvy])); all_goals ((repeat (first | rw [if_pos (by omega)] | rw [if_neg (by omega)])) <;> rfl)))) ⟨Nat.le_of_ble_eq_true rfl, Nat.le_of_ble_eq_true rfl⟩ dX4_copy_185
                                · obtain ⟨j1, rfl⟩ : ∃ n9 : Nat, j = n9 := ⟨j.toNat, by omega⟩
                                  refine lv_iload_n hx hb dX4_copy_144 rfl (lv_at hl 3 rfl) ?_
                                  refine g_i2l hx hb dX4_copy_145 (by omega) ?_
                                  refine lv_iload hx hb dX4_copy_146 (lv_at hl 5 rfl) ?_
                                  refine g_i2l hx hb dX4_copy_148 (by omega) ?_
                                  refine g_ladd hx hb dX4_copy_149 ?_
                                  refine lv_aload_n hx hb dX4_copy_150 rfl (lv_at hl 0 rfl) ?_
                                  refine m_get 10 (by decide) (v := .ref (ad 10)) rfl hx hb hts hown hG (hts _ q3306) dX4_copy_151 ?_
                                  refine lv_iload_n hx hb dX4_copy_154 rfl (lv_at hl 1 rfl) ?_
                                  refine m_iald 10 rfl rfl (by decide) v1 (v := (nv : Int)) ⟨by omega, by show _ < 8; omega⟩ (show S.2.1 10 v1 = (nv : Int) from hlnv) hx hb hG dX4_copy_155 ?_
                                  refine g_i2l hx hb dX4_copy_156 (by omega) ?_
                                  refine g_lcmpz hx hb dX4_copy_157 (by omega) (fun zc_59 hzc_59 => ?_)
                                  refine g_gt (tgt := 179) hx hb dX4_copy_158 (by decide) (by omega) (fun h62 => ?_) (fun h62 => ?_)
                                  · refine lv_aload_n hx hb dX4_copy_179 rfl (lv_at hl 0 rfl) ?_
                                    refine lv_bipush (v := zI (-5)) hx hb dX4_copy_180 (by decide +kernel) ?_
                                    refine g_topz (y := -((5 : Nat) : Int)) (by decide) ?_
                                    refine m_ci (va_runV (As := [.int (zI (-((5 : Nat) : Int)))]) (rest := []) ⟨hx, hb, hml, hown, hts⟩ (metX4_no 5 (by decide)) (cwV 1 hts (lw_V q3427 q3429 qs43 q102 q3430) rfl rfl rfl (by decide +kernel) ⟨Nat.le_of_ble_eq_true rfl, Nat.le_of_ble_eq_true rfl⟩) (m_preV hG) rfl rfl hl.1 rfl (lv_room (Nat.le_of_ble_eq_true rfl)) dX4_copy_182 ⟨Nat.le_of_ble_eq_true rfl, Nat.le_of_ble_eq_true rfl⟩) hG (fun r_60 S_61 H locs hp hG => ?_)
                                    obtain ⟨rfl, rfl⟩ := hp
                                    have hG : mW X mo ad (mNo S 5) s H locs := hG
                                    exact m_iret hx hb hr hlocks hG (by first | (exfalso; omega) | exact (hX.noR 5 (by unfold opCopy; (repeat (first | rw [if_pos (by omega)] | rw [if_neg (by omega)])); all_goals (try (simp only [Int.toNat_natCast, hsvv, hsvy])); all_goals ((repeat (first | rw [if_pos (by omega)] | rw [if_neg (by omega)])) <;> rfl)))) ⟨Nat.le_of_ble_eq_true rfl, Nat.le_of_ble_eq_true rfl⟩ dX4_copy_185
                                  · refine lv_iload hx hb dX4_copy_161 (lv_at hl 4 rfl) ?_
                                    refine g_i2l hx hb dX4_copy_163 (by omega) ?_
                                    refine lv_iload hx hb dX4_copy_164 (lv_at hl 5 rfl) ?_
                                    refine g_i2l hx hb dX4_copy_166 (by omega) ?_
                                    refine g_ladd hx hb dX4_copy_167 ?_
                                    refine lv_aload_n hx hb dX4_copy_168 rfl (lv_at hl 0 rfl) ?_
                                    refine m_get 10 (by decide) (v := .ref (ad 10)) rfl hx hb hts hown hG (hts _ q3306) dX4_copy_169 ?_
                                    refine lv_iload_n hx hb dX4_copy_172 rfl (lv_at hl 2 rfl) ?_
                                    refine m_iald 10 rfl rfl (by decide) y1 (v := (ny : Int)) ⟨by omega, by show _ < 8; omega⟩ (show S.2.1 10 y1 = (ny : Int) from hlny) hx hb hG dX4_copy_173 ?_
                                    refine g_i2l hx hb dX4_copy_174 (by omega) ?_
                                    refine g_lcmpz hx hb dX4_copy_175 (by omega) (fun zc_62 hzc_62 => ?_)
                                    refine g_le (tgt := 186) hx hb dX4_copy_176 (by decide) (by omega) (fun h63 => ?_) (fun h63 => ?_)
                                    · refine lv_iload_n hx hb dX4_copy_186 rfl (lv_at hl 1 rfl) ?_
                                      refine lv_iload_n hx hb dX4_copy_187 rfl (lv_at hl 2 rfl) ?_
                                      refine g_cne (tgt := 248) hx hb dX4_copy_188 (by decide) (by omega) (fun hvy => ?_) (fun hvy => ?_)
                                      · refine lv_iconst (v := zI 0) hx hb dX4_copy_248 (by decide +kernel) ?_
                                        refine lv_istore (lv' := [(6, .int (zI 0)), (0, .ref mo), (1, .int (zI (v1 : Int))), (2, .int (zI (y1 : Int))), (3, .int (zI (i1 : Int))), (4, .int (zI (j1 : Int))), (5, .int (zI (n1 : Int)))]) hx hb dX4_copy_249 hl (by decide) rfl (fun ls hl => ?_)
                                        have hl : lv_has ls 7 [(6, .int (zI ((0 : Nat) : Int))), (0, .ref mo), (1, .int (zI (v1 : Int))), (2, .int (zI (y1 : Int))), (3, .int (zI (i1 : Int))), (4, .int (zI (j1 : Int))), (5, .int (zI (n1 : Int)))] := by exact hl
                                        refine g_loop (fun mz H locs ls => ∃ (k : Nat) (T : mS), (k ≤ n1 ∧ mz = n1 - k ∧ T.1 = S.1 ∧ T.2.1 = S.2.1 ∧ (∀ k, k ≠ 11 → T.2.2 k = S.2.2 k) ∧ (∀ d, d < k → T.2.2 11 (160 * y1 + j1 + d) = S.2.2 11 (160 * v1 + i1 + d)) ∧ ∀ x, x < 160 * y1 + j1 ∨ 160 * y1 + j1 + k ≤ x → T.2.2 11 x = S.2.2 11 x) ∧ mW X mo ad T s H locs ∧ lv_has ls 7 [(0, .ref mo), (1, .int (zI (v1 : Int))), (2, .int (zI (y1 : Int))), (3, .int (zI (i1 : Int))), (4, .int (zI (j1 : Int))), (5, .int (zI (n1 : Int))), (6, .int (zI (k : Int)))]) (n1 - 0) ⟨0, S, ⟨Nat.zero_le _, rfl, rfl, rfl, fun _ _ => rfl, fun d hd => by omega, fun x _ => rfl⟩, hG, (lv_sub hl [1, 2, 3, 4, 5, 6, 0] rfl)⟩ (fun mz ihF H locs ls hI => ?_)
                                        obtain ⟨k, T, ⟨hk, hmz, hI, hA2, hL, hD, hU⟩, hG, hl⟩ := hI
                                        refine lv_iload hx hb dX4_copy_251 (lv_at hl 6 rfl) ?_
                                        refine lv_iload hx hb dX4_copy_253 (lv_at hl 5 rfl) ?_
                                        refine g_cge (tgt := 295) hx hb dX4_copy_255 (by decide) (by omega) (fun hk1 => ?_) (fun hk1 => ?_)
                                        · have hkn : k = n1 := by omega
                                          rw [hkn] at hD hU
                                          refine lv_iconst (v := zI 1) hx hb dX4_copy_295 (by decide +kernel) ?_
                                          exact m_iret hx hb hr hlocks hG (by rw [show opCopy a v1 y1 i1 j1 n1 = (1, aSet a y1 (some (.inr (soy, ny, cpF fv fy i1 j1 n1)))) from by unfold opCopy; rw [if_neg (by omega)]; simp only [Int.toNat_natCast, hsvv, hsvy]; rw [if_neg (by omega), if_neg (by omega), if_neg (by omega)]]; exact ⟨rfl, hX.set hA (by omega) ⟨by rw [hA2]; exact hshy, by rw [hA2]; exact hlny, fun z hz => by by_cases hz1 : j1 ≤ z ∧ z < j1 + n1; (rw [show cpF fv fy i1 j1 n1 z = fv (z - j1 + i1) from if_pos hz1, show 160 * y1 + z = 160 * y1 + j1 + (z - j1) by omega, hD (z - j1) (by omega), show 160 * v1 + i1 + (z - j1) = 160 * v1 + (z - j1 + i1) by omega]; exact helv _ (by omega)); (rw [show cpF fv fy i1 j1 n1 z = fy z from if_neg hz1]; exact (hU _ (by omega)).trans (hely z hz))⟩ hI (fun k _ _ => by rw [hA2]) hL (fun _ _ => by rw [hA2]; exact ⟨rfl, rfl⟩) (fun r i h1 h2 => hU _ (by omega))⟩) ⟨Nat.le_of_ble_eq_true rfl, Nat.le_of_ble_eq_true rfl⟩ dX4_copy_296
                                        · refine lv_aload_n hx hb dX4_copy_258 rfl (lv_at hl 0 rfl) ?_
                                          refine m_get 11 (by decide) (v := .ref (ad 11)) rfl hx hb hts hown hG (hts _ q3307) dX4_copy_259 ?_
                                          refine lv_sipush (v := zI 160) hx hb dX4_copy_262 (by decide +kernel) ?_
                                          refine lv_iload_n hx hb dX4_copy_265 rfl (lv_at hl 2 rfl) ?_
                                          refine g_imul hx hb dX4_copy_266 ?_
                                          refine lv_iload hx hb dX4_copy_267 (lv_at hl 4 rfl) ?_
                                          refine g_iadd hx hb dX4_copy_269 ?_
                                          refine lv_iload hx hb dX4_copy_270 (lv_at hl 6 rfl) ?_
                                          refine g_iadd hx hb dX4_copy_272 ?_
                                          refine lv_aload_n hx hb dX4_copy_273 rfl (lv_at hl 0 rfl) ?_
                                          refine m_get 11 (by decide) (v := .ref (ad 11)) rfl hx hb hts hown hG (hts _ q3307) dX4_copy_274 ?_
                                          refine lv_sipush (v := zI 160) hx hb dX4_copy_277 (by decide +kernel) ?_
                                          refine lv_iload_n hx hb dX4_copy_280 rfl (lv_at hl 1 rfl) ?_
                                          refine g_imul hx hb dX4_copy_281 ?_
                                          refine lv_iload_n hx hb dX4_copy_282 rfl (lv_at hl 3 rfl) ?_
                                          refine g_iadd hx hb dX4_copy_283 ?_
                                          refine lv_iload hx hb dX4_copy_284 (lv_at hl 6 rfl) ?_
                                          refine g_iadd hx hb dX4_copy_286 ?_
                                          refine m_lald 11 rfl rfl (160 * v1 + i1 + k) (v := (S.2.2 11 (160 * v1 + i1 + k))) ⟨by omega, by show _ < 1280; omega⟩ (hU _ (by omega)) hx hb hG dX4_copy_287 ?_
                                          refine m_last 11 rfl rfl (160 * y1 + j1 + k) ⟨by omega, by show _ < 1280; omega⟩ hx hb hG dX4_copy_288 (fun H locs (hG : mW X mo ad (sL T 11 (160 * y1 + j1 + k) (S.2.2 11 (160 * v1 + i1 + k))) s H locs) => ?_)
                                          refine lv_iinc (v := zI ((k : Int) + 1 : Int)) (lv' := [(6, .int (zI ((k : Int) + 1 : Int))), (0, .ref mo), (1, .int (zI (v1 : Int))), (2, .int (zI (y1 : Int))), (3, .int (zI (i1 : Int))), (4, .int (zI (j1 : Int))), (5, .int (zI (n1 : Int)))]) hx hb dX4_copy_289 hl (k := 6) rfl ((zI_add _ _).trans (congrArg zI (by omega))) (by decide) rfl (fun ls hl => ?_)
                                          refine lv_goto (tgt := 251) hx hb dX4_copy_292 (by decide) ?_
                                          exact ihF (n1 - (k + 1)) (by omega) H locs ls ⟨(k + 1), (sL T 11 (160 * y1 + j1 + k) (S.2.2 11 (160 * v1 + i1 + k))), ⟨by omega, rfl, hI, hA2, fun k hk => (sL_o hk).trans (hL k hk), fun d hd => by by_cases hdk : d = k; (subst hdk; exact sL_s); exact (sL_n (by omega)).trans (hD d (by omega)), fun x hx => (sL_n (by omega)).trans (hU x (by omega))⟩, hG, (lv_sub hl [1, 2, 3, 4, 5, 6, 0] rfl)⟩
                                      · refine lv_iload_n hx hb dX4_copy_191 rfl (lv_at hl 3 rfl) ?_
                                        refine lv_iload hx hb dX4_copy_192 (lv_at hl 4 rfl) ?_
                                        refine g_cge (tgt := 248) hx hb dX4_copy_194 (by decide) (by omega) (fun hij => ?_) (fun hij => ?_)
                                        · refine lv_iconst (v := zI 0) hx hb dX4_copy_248 (by decide +kernel) ?_
                                          refine lv_istore (lv' := [(6, .int (zI 0)), (0, .ref mo), (1, .int (zI (v1 : Int))), (2, .int (zI (y1 : Int))), (3, .int (zI (i1 : Int))), (4, .int (zI (j1 : Int))), (5, .int (zI (n1 : Int)))]) hx hb dX4_copy_249 hl (by decide) rfl (fun ls hl => ?_)
                                          have hl : lv_has ls 7 [(6, .int (zI ((0 : Nat) : Int))), (0, .ref mo), (1, .int (zI (v1 : Int))), (2, .int (zI (y1 : Int))), (3, .int (zI (i1 : Int))), (4, .int (zI (j1 : Int))), (5, .int (zI (n1 : Int)))] := by exact hl
                                          refine g_loop (fun mz H locs ls => ∃ (k : Nat) (T : mS), (k ≤ n1 ∧ mz = n1 - k ∧ T.1 = S.1 ∧ T.2.1 = S.2.1 ∧ (∀ k, k ≠ 11 → T.2.2 k = S.2.2 k) ∧ (∀ d, d < k → T.2.2 11 (160 * y1 + j1 + d) = S.2.2 11 (160 * v1 + i1 + d)) ∧ ∀ x, x < 160 * y1 + j1 ∨ 160 * y1 + j1 + k ≤ x → T.2.2 11 x = S.2.2 11 x) ∧ mW X mo ad T s H locs ∧ lv_has ls 7 [(0, .ref mo), (1, .int (zI (v1 : Int))), (2, .int (zI (y1 : Int))), (3, .int (zI (i1 : Int))), (4, .int (zI (j1 : Int))), (5, .int (zI (n1 : Int))), (6, .int (zI (k : Int)))]) (n1 - 0) ⟨0, S, ⟨Nat.zero_le _, rfl, rfl, rfl, fun _ _ => rfl, fun d hd => by omega, fun x _ => rfl⟩, hG, (lv_sub hl [1, 2, 3, 4, 5, 6, 0] rfl)⟩ (fun mz ihF H locs ls hI => ?_)
                                          obtain ⟨k, T, ⟨hk, hmz, hI, hA2, hL, hD, hU⟩, hG, hl⟩ := hI
                                          refine lv_iload hx hb dX4_copy_251 (lv_at hl 6 rfl) ?_
                                          refine lv_iload hx hb dX4_copy_253 (lv_at hl 5 rfl) ?_
                                          refine g_cge (tgt := 295) hx hb dX4_copy_255 (by decide) (by omega) (fun hk1 => ?_) (fun hk1 => ?_)
                                          · have hkn : k = n1 := by omega
                                            rw [hkn] at hD hU
                                            refine lv_iconst (v := zI 1) hx hb dX4_copy_295 (by decide +kernel) ?_
                                            exact m_iret hx hb hr hlocks hG (by rw [show opCopy a v1 y1 i1 j1 n1 = (1, aSet a y1 (some (.inr (soy, ny, cpF fv fy i1 j1 n1)))) from by unfold opCopy; rw [if_neg (by omega)]; simp only [Int.toNat_natCast, hsvv, hsvy]; rw [if_neg (by omega), if_neg (by omega), if_neg (by omega)]]; exact ⟨rfl, hX.set hA (by omega) ⟨by rw [hA2]; exact hshy, by rw [hA2]; exact hlny, fun z hz => by by_cases hz1 : j1 ≤ z ∧ z < j1 + n1; (rw [show cpF fv fy i1 j1 n1 z = fv (z - j1 + i1) from if_pos hz1, show 160 * y1 + z = 160 * y1 + j1 + (z - j1) by omega, hD (z - j1) (by omega), show 160 * v1 + i1 + (z - j1) = 160 * v1 + (z - j1 + i1) by omega]; exact helv _ (by omega)); (rw [show cpF fv fy i1 j1 n1 z = fy z from if_neg hz1]; exact (hU _ (by omega)).trans (hely z hz))⟩ hI (fun k _ _ => by rw [hA2]) hL (fun _ _ => by rw [hA2]; exact ⟨rfl, rfl⟩) (fun r i h1 h2 => hU _ (by omega))⟩) ⟨Nat.le_of_ble_eq_true rfl, Nat.le_of_ble_eq_true rfl⟩ dX4_copy_296
                                          · refine lv_aload_n hx hb dX4_copy_258 rfl (lv_at hl 0 rfl) ?_
                                            refine m_get 11 (by decide) (v := .ref (ad 11)) rfl hx hb hts hown hG (hts _ q3307) dX4_copy_259 ?_
                                            refine lv_sipush (v := zI 160) hx hb dX4_copy_262 (by decide +kernel) ?_
                                            refine lv_iload_n hx hb dX4_copy_265 rfl (lv_at hl 2 rfl) ?_
                                            refine g_imul hx hb dX4_copy_266 ?_
                                            refine lv_iload hx hb dX4_copy_267 (lv_at hl 4 rfl) ?_
                                            refine g_iadd hx hb dX4_copy_269 ?_
                                            refine lv_iload hx hb dX4_copy_270 (lv_at hl 6 rfl) ?_
                                            refine g_iadd hx hb dX4_copy_272 ?_
                                            refine lv_aload_n hx hb dX4_copy_273 rfl (lv_at hl 0 rfl) ?_
                                            refine m_get 11 (by decide) (v := .ref (ad 11)) rfl hx hb hts hown hG (hts _ q3307) dX4_copy_274 ?_
                                            refine lv_sipush (v := zI 160) hx hb dX4_copy_277 (by decide +kernel) ?_
                                            refine lv_iload_n hx hb dX4_copy_280 rfl (lv_at hl 1 rfl) ?_
                                            refine g_imul hx hb dX4_copy_281 ?_
                                            refine lv_iload_n hx hb dX4_copy_282 rfl (lv_at hl 3 rfl) ?_
                                            refine g_iadd hx hb dX4_copy_283 ?_
                                            refine lv_iload hx hb dX4_copy_284 (lv_at hl 6 rfl) ?_
                                            refine g_iadd hx hb dX4_copy_286 ?_
                                            refine m_lald 11 rfl rfl (160 * v1 + i1 + k) (v := (S.2.2 11 (160 * v1 + i1 + k))) ⟨by omega, by show _ < 1280; omega⟩ (hU _ (by omega)) hx hb hG dX4_copy_287 ?_
                                            refine m_last 11 rfl rfl (160 * y1 + j1 + k) ⟨by omega, by show _ < 1280; omega⟩ hx hb hG dX4_copy_288 (fun H locs (hG : mW X mo ad (sL T 11 (160 * y1 + j1 + k) (S.2.2 11 (160 * v1 + i1 + k))) s H locs) => ?_)
                                            refine lv_iinc (v := zI ((k : Int) + 1 : Int)) (lv' := [(6, .int (zI ((k : Int) + 1 : Int))), (0, .ref mo), (1, .int (zI (v1 : Int))), (2, .int (zI (y1 : Int))), (3, .int (zI (i1 : Int))), (4, .int (zI (j1 : Int))), (5, .int (zI (n1 : Int)))]) hx hb dX4_copy_289 hl (k := 6) rfl ((zI_add _ _).trans (congrArg zI (by omega))) (by decide) rfl (fun ls hl => ?_)
                                            refine lv_goto (tgt := 251) hx hb dX4_copy_292 (by decide) ?_
                                            exact ihF (n1 - (k + 1)) (by omega) H locs ls ⟨(k + 1), (sL T 11 (160 * y1 + j1 + k) (S.2.2 11 (160 * v1 + i1 + k))), ⟨by omega, rfl, hI, hA2, fun k hk => (sL_o hk).trans (hL k hk), fun d hd => by by_cases hdk : d = k; (subst hdk; exact sL_s); exact (sL_n (by omega)).trans (hD d (by omega)), fun x hx => (sL_n (by omega)).trans (hU x (by omega))⟩, hG, (lv_sub hl [1, 2, 3, 4, 5, 6, 0] rfl)⟩
                                        · have hvy1 : v1 = y1 := by omega
                                          refine lv_iload hx hb dX4_copy_197 (lv_at hl 5 rfl) ?_
                                          refine lv_iconst (v := zI 1) hx hb dX4_copy_199 (by decide +kernel) ?_
                                          refine g_isub hx hb dX4_copy_200 ?_
                                          refine lv_istore (lv' := [(6, .int (zI ((n1 : Int) - 1))), (0, .ref mo), (1, .int (zI (v1 : Int))), (2, .int (zI (y1 : Int))), (3, .int (zI (i1 : Int))), (4, .int (zI (j1 : Int))), (5, .int (zI (n1 : Int)))]) hx hb dX4_copy_201 hl (by decide) rfl (fun ls hl => ?_)
                                          have hl : lv_has ls 7 [(6, .int (zI ((n1 : Int) - 1))), (0, .ref mo), (1, .int (zI (v1 : Int))), (2, .int (zI (y1 : Int))), (3, .int (zI (i1 : Int))), (4, .int (zI (j1 : Int))), (5, .int (zI (n1 : Int)))] := by exact hl
                                          refine g_loop (fun mz H locs ls => ∃ (k : Nat) (T : mS), (k ≤ n1 ∧ mz = k ∧ T.1 = S.1 ∧ T.2.1 = S.2.1 ∧ (∀ k, k ≠ 11 → T.2.2 k = S.2.2 k) ∧ (∀ d, k ≤ d → d < n1 → T.2.2 11 (160 * y1 + j1 + d) = S.2.2 11 (160 * v1 + i1 + d)) ∧ ∀ x, x < 160 * y1 + j1 + k ∨ 160 * y1 + j1 + n1 ≤ x → T.2.2 11 x = S.2.2 11 x) ∧ mW X mo ad T s H locs ∧ lv_has ls 7 [(0, .ref mo), (1, .int (zI (v1 : Int))), (2, .int (zI (y1 : Int))), (3, .int (zI (i1 : Int))), (4, .int (zI (j1 : Int))), (5, .int (zI (n1 : Int))), (6, .int (zI ((k : Int) - 1)))]) n1 ⟨n1, S, ⟨Nat.le_refl _, rfl, rfl, rfl, fun _ _ => rfl, fun d h1 h2 => by omega, fun x _ => rfl⟩, hG, (lv_sub hl [1, 2, 3, 4, 5, 6, 0] rfl)⟩ (fun mz ihB H locs ls hI => ?_)
                                          obtain ⟨k, T, ⟨hk, hmz, hI, hA2, hL, hD, hU⟩, hG, hl⟩ := hI
                                          refine lv_iload hx hb dX4_copy_203 (lv_at hl 6 rfl) ?_
                                          refine g_lt (tgt := 245) hx hb dX4_copy_205 (by decide) (by omega) (fun hk1 => ?_) (fun hk1 => ?_)
                                          · have hk0 : k = 0 := by omega
                                            have hD : ∀ d, d < n1 → T.2.2 11 (160 * y1 + j1 + d) = S.2.2 11 (160 * v1 + i1 + d) := fun d h => hD d (by omega) h
                                            refine lv_goto (tgt := 295) hx hb dX4_copy_245 (by decide) ?_
                                            refine lv_iconst (v := zI 1) hx hb dX4_copy_295 (by decide +kernel) ?_
                                            exact m_iret hx hb hr hlocks hG (by rw [show opCopy a v1 y1 i1 j1 n1 = (1, aSet a y1 (some (.inr (soy, ny, cpF fv fy i1 j1 n1)))) from by unfold opCopy; rw [if_neg (by omega)]; simp only [Int.toNat_natCast, hsvv, hsvy]; rw [if_neg (by omega), if_neg (by omega), if_neg (by omega)]]; exact ⟨rfl, hX.set hA (by omega) ⟨by rw [hA2]; exact hshy, by rw [hA2]; exact hlny, fun z hz => by by_cases hz1 : j1 ≤ z ∧ z < j1 + n1; (rw [show cpF fv fy i1 j1 n1 z = fv (z - j1 + i1) from if_pos hz1, show 160 * y1 + z = 160 * y1 + j1 + (z - j1) by omega, hD (z - j1) (by omega), show 160 * v1 + i1 + (z - j1) = 160 * v1 + (z - j1 + i1) by omega]; exact helv _ (by omega)); (rw [show cpF fv fy i1 j1 n1 z = fy z from if_neg hz1]; exact (hU _ (by omega)).trans (hely z hz))⟩ hI (fun k _ _ => by rw [hA2]) hL (fun _ _ => by rw [hA2]; exact ⟨rfl, rfl⟩) (fun r i h1 h2 => hU _ (by omega))⟩) ⟨Nat.le_of_ble_eq_true rfl, Nat.le_of_ble_eq_true rfl⟩ dX4_copy_296
                                          · obtain ⟨k, rfl⟩ : ∃ q, k = q + 1 := ⟨k - 1, by omega⟩
                                            have hl : lv_has ls 7 [(0, .ref mo), (1, .int (zI (v1 : Int))), (2, .int (zI (y1 : Int))), (3, .int (zI (i1 : Int))), (4, .int (zI (j1 : Int))), (5, .int (zI (n1 : Int))), (6, .int (zI (k : Int)))] := by rw [show ((k + 1 : Nat) : Int) - 1 = (k : Int) by omega] at hl; exact hl
                                            refine lv_aload_n hx hb dX4_copy_208 rfl (lv_at hl 0 rfl) ?_
                                            refine m_get 11 (by decide) (v := .ref (ad 11)) rfl hx hb hts hown hG (hts _ q3307) dX4_copy_209 ?_
                                            refine lv_sipush (v := zI 160) hx hb dX4_copy_212 (by decide +kernel) ?_
                                            refine lv_iload_n hx hb dX4_copy_215 rfl (lv_at hl 2 rfl) ?_
                                            refine g_imul hx hb dX4_copy_216 ?_
                                            refine lv_iload hx hb dX4_copy_217 (lv_at hl 4 rfl) ?_
                                            refine g_iadd hx hb dX4_copy_219 ?_
                                            refine lv_iload hx hb dX4_copy_220 (lv_at hl 6 rfl) ?_
                                            refine g_iadd hx hb dX4_copy_222 ?_
                                            refine lv_aload_n hx hb dX4_copy_223 rfl (lv_at hl 0 rfl) ?_
                                            refine m_get 11 (by decide) (v := .ref (ad 11)) rfl hx hb hts hown hG (hts _ q3307) dX4_copy_224 ?_
                                            refine lv_sipush (v := zI 160) hx hb dX4_copy_227 (by decide +kernel) ?_
                                            refine lv_iload_n hx hb dX4_copy_230 rfl (lv_at hl 1 rfl) ?_
                                            refine g_imul hx hb dX4_copy_231 ?_
                                            refine lv_iload_n hx hb dX4_copy_232 rfl (lv_at hl 3 rfl) ?_
                                            refine g_iadd hx hb dX4_copy_233 ?_
                                            refine lv_iload hx hb dX4_copy_234 (lv_at hl 6 rfl) ?_
                                            refine g_iadd hx hb dX4_copy_236 ?_
                                            refine m_lald 11 rfl rfl (160 * v1 + i1 + k) (v := (S.2.2 11 (160 * v1 + i1 + k))) ⟨by omega, by show _ < 1280; omega⟩ (hU _ (by omega)) hx hb hG dX4_copy_237 ?_
                                            refine m_last 11 rfl rfl (160 * y1 + j1 + k) ⟨by omega, by show _ < 1280; omega⟩ hx hb hG dX4_copy_238 (fun H locs (hG : mW X mo ad (sL T 11 (160 * y1 + j1 + k) (S.2.2 11 (160 * v1 + i1 + k))) s H locs) => ?_)
                                            refine lv_iinc (v := zI ((k : Int) - 1 : Int)) (lv' := [(6, .int (zI ((k : Int) - 1 : Int))), (0, .ref mo), (1, .int (zI (v1 : Int))), (2, .int (zI (y1 : Int))), (3, .int (zI (i1 : Int))), (4, .int (zI (j1 : Int))), (5, .int (zI (n1 : Int)))]) hx hb dX4_copy_239 hl (k := 6) rfl ((zI_add _ _).trans (congrArg zI (by omega))) (by decide) rfl (fun ls hl => ?_)
                                            refine lv_goto (tgt := 203) hx hb dX4_copy_242 (by decide) ?_
                                            exact ihB k (by omega) H locs ls ⟨k, (sL T 11 (160 * y1 + j1 + k) (S.2.2 11 (160 * v1 + i1 + k))), ⟨by omega, rfl, hI, hA2, fun k hk => (sL_o hk).trans (hL k hk), fun d h1 h2 => by by_cases hdk : d = k; (subst hdk; exact sL_s); exact (sL_n (by omega)).trans (hD d (by omega) h2), fun x hx => (sL_n (by omega)).trans (hU x (by omega))⟩, hG, (lv_sub hl [1, 2, 3, 4, 5, 6, 0] rfl)⟩
                                    · refine lv_aload_n hx hb dX4_copy_179 rfl (lv_at hl 0 rfl) ?_
                                      refine lv_bipush (v := zI (-5)) hx hb dX4_copy_180 (by decide +kernel) ?_
                                      refine g_topz (y := -((5 : Nat) : Int)) (by decide) ?_
                                      refine m_ci (va_runV (As := [.int (zI (-((5 : Nat) : Int)))]) (rest := []) ⟨hx, hb, hml, hown, hts⟩ (metX4_no 5 (by decide)) (cwV 1 hts (lw_V q3427 q3429 qs43 q102 q3430) rfl rfl rfl (by decide +kernel) ⟨Nat.le_of_ble_eq_true rfl, Nat.le_of_ble_eq_true rfl⟩) (m_preV hG) rfl rfl hl.1 rfl (lv_room (Nat.le_of_ble_eq_true rfl)) dX4_copy_182 ⟨Nat.le_of_ble_eq_true rfl, Nat.le_of_ble_eq_true rfl⟩) hG (fun r_63 S_64 H locs hp hG => ?_)
                                      obtain ⟨rfl, rfl⟩ := hp
                                      have hG : mW X mo ad (mNo S 5) s H locs := hG
                                      exact m_iret hx hb hr hlocks hG (by first | (exfalso; omega) | exact (hX.noR 5 (by unfold opCopy; (repeat (first | rw [if_pos (by omega)] | rw [if_neg (by omega)])); all_goals (try (simp only [Int.toNat_natCast, hsvv, hsvy])); all_goals ((repeat (first | rw [if_pos (by omega)] | rw [if_neg (by omega)])) <;> rfl)))) ⟨Nat.le_of_ble_eq_true rfl, Nat.le_of_ble_eq_true rfl⟩ dX4_copy_185
                            · refine lv_aload_n hx hb dX4_copy_128 rfl (lv_at hl 0 rfl) ?_
                              refine lv_bipush (v := zI (-4)) hx hb dX4_copy_129 (by decide +kernel) ?_
                              refine g_topz (y := -((4 : Nat) : Int)) (by decide) ?_
                              refine m_ci (va_runV (As := [.int (zI (-((4 : Nat) : Int)))]) (rest := []) ⟨hx, hb, hml, hown, hts⟩ (metX4_no 4 (by decide)) (cwV 1 hts (lw_V q3427 q3429 qs43 q102 q3430) rfl rfl rfl (by decide +kernel) ⟨Nat.le_of_ble_eq_true rfl, Nat.le_of_ble_eq_true rfl⟩) (m_preV hG) rfl rfl hl.1 rfl (lv_room (Nat.le_of_ble_eq_true rfl)) dX4_copy_131 ⟨Nat.le_of_ble_eq_true rfl, Nat.le_of_ble_eq_true rfl⟩) hG (fun r_65 S_66 H locs hp hG => ?_)
                              obtain ⟨rfl, rfl⟩ := hp
                              have hG : mW X mo ad (mNo S 4) s H locs := hG
                              exact m_iret hx hb hr hlocks hG (by first | (exfalso; omega) | exact (hX.noR 4 (by unfold opCopy; (repeat (first | rw [if_pos (by omega)] | rw [if_neg (by omega)])); all_goals (try (simp only [Int.toNat_natCast, hsvv, hsvy])); all_goals ((repeat (first | rw [if_pos (by omega)] | rw [if_neg (by omega)])) <;> rfl)))) ⟨Nat.le_of_ble_eq_true rfl, Nat.le_of_ble_eq_true rfl⟩ dX4_copy_134
                          · exfalso; omega
                      · refine lv_aload_n hx hb dX4_copy_91 rfl (lv_at hl 0 rfl) ?_
                        refine lv_bipush (v := zI (-2)) hx hb dX4_copy_92 (by decide +kernel) ?_
                        refine g_topz (y := -((2 : Nat) : Int)) (by decide) ?_
                        refine m_ci (va_runV (As := [.int (zI (-((2 : Nat) : Int)))]) (rest := []) ⟨hx, hb, hml, hown, hts⟩ (metX4_no 2 (by decide)) (cwV 1 hts (lw_V q3427 q3429 qs43 q102 q3430) rfl rfl rfl (by decide +kernel) ⟨Nat.le_of_ble_eq_true rfl, Nat.le_of_ble_eq_true rfl⟩) (m_preV hG) rfl rfl hl.1 rfl (lv_room (Nat.le_of_ble_eq_true rfl)) dX4_copy_94 ⟨Nat.le_of_ble_eq_true rfl, Nat.le_of_ble_eq_true rfl⟩) hG (fun r_67 S_68 H locs hp hG => ?_)
                        obtain ⟨rfl, rfl⟩ := hp
                        have hG : mW X mo ad (mNo S 2) s H locs := hG
                        exact m_iret hx hb hr hlocks hG (by first | (exfalso; omega) | exact (hX.noR 2 (by unfold opCopy; (repeat (first | rw [if_pos (by omega)] | rw [if_neg (by omega)])); all_goals (try (simp only [Int.toNat_natCast, hsvv, hsvy])); all_goals ((repeat (first | rw [if_pos (by omega)] | rw [if_neg (by omega)])) <;> rfl)))) ⟨Nat.le_of_ble_eq_true rfl, Nat.le_of_ble_eq_true rfl⟩ dX4_copy_97
    · refine lv_aload_n hx hb dX4_copy_20 rfl (lv_at hl 0 rfl) ?_
      refine lv_iconst (v := zI (-1)) hx hb dX4_copy_21 (by decide +kernel) ?_
      refine g_topz (y := -((1 : Nat) : Int)) (by decide) ?_
      refine m_ci (va_runV (As := [.int (zI (-((1 : Nat) : Int)))]) (rest := []) ⟨hx, hb, hml, hown, hts⟩ (metX4_no 1 (by decide)) (cwV 1 hts (lw_V q3427 q3429 qs43 q102 q3430) rfl rfl rfl (by decide +kernel) ⟨Nat.le_of_ble_eq_true rfl, Nat.le_of_ble_eq_true rfl⟩) (m_preV hG) rfl rfl hl.1 rfl (lv_room (Nat.le_of_ble_eq_true rfl)) dX4_copy_22 ⟨Nat.le_of_ble_eq_true rfl, Nat.le_of_ble_eq_true rfl⟩) hG (fun r_69 S_70 H locs hp hG => ?_)
      obtain ⟨rfl, rfl⟩ := hp
      have hG : mW X mo ad (mNo S 1) s H locs := hG
      exact m_iret hx hb hr hlocks hG (by first | (exfalso; omega) | exact (hX.noR 1 (by unfold opCopy; all_goals ((repeat (first | rw [if_pos (by omega)] | rw [if_neg (by omega)])) <;> rfl)))) ⟨Nat.le_of_ble_eq_true rfl, Nat.le_of_ble_eq_true rfl⟩ dX4_copy_25

